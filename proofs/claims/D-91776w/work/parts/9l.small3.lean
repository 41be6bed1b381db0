/-! small nets: run -/
section C9l
abbrev ftN (n d k v : Nat) : Bool := fit n d k (nI v)
def fwF (ft : Nat → Bool) : Nat → Option (Nat × Nat)
  | 0 => none
  | b + 1 => if ft b = true then (match fwF ft b with
    | none => some (pc32 (nI b), b)
    | some (l, m) => if pc32 (nI b) < l then some (pc32 (nI b), b) else some (l, m)) else fwF ft b
def fwI (o : Option (Nat × Nat)) : Int32 := match o with
  | none => -1
  | some (l, _) => nI l
def lsI (o : Option (Nat × Nat)) : Int32 := match o with
  | none => -1
  | some (_, m) => nI m
def orb (n b v : Nat) : Prop := ∃ r, isP n r ∧ nI v = img n (nI b) r (pcn n n)
noncomputable def kdF (n : Nat) (ft : Nat → Bool) : Nat → Nat × (Nat → Prop)
  | 0 => (0, fun _ => False)
  | b + 1 => @ite _ (ft b = true ∧ ¬ (kdF n ft b).2 b) (Classical.propDecidable _) ((kdF n ft b).1 + 1, fun v => (kdF n ft b).2 v ∨ orb n b v) (kdF n ft b)
theorem kdF_y {n b : Nat} {ft : Nat → Bool} (h : ft b = true) (h2 : ¬ (kdF n ft b).2 b) : kdF n ft (b + 1) = ((kdF n ft b).1 + 1, fun v => (kdF n ft b).2 v ∨ orb n b v) := by
  rw [kdF]
  exact @if_pos _ (Classical.propDecidable _) ⟨h, h2⟩ _ _ _
theorem kdF_n {n b : Nat} {ft : Nat → Bool} (h : ¬ (ft b = true ∧ ¬ (kdF n ft b).2 b)) : kdF n ft (b + 1) = kdF n ft b := by
  rw [kdF]
  exact @if_neg _ (Classical.propDecidable _) h _ _ _
theorem kdF_le {n : Nat} {ft : Nat → Bool} : ∀ b, (kdF n ft b).1 ≤ b
  | 0 => Nat.le_refl _
  | b + 1 => by
    have := kdF_le (n := n) (ft := ft) b
    by_cases h : ft b = true ∧ ¬ (kdF n ft b).2 b
    · rw [kdF_y h.1 h.2]; show (kdF n ft b).1 + 1 ≤ b + 1; omega
    · rw [kdF_n h]; omega
theorem bt_nIl {v k i : Nat} (hk : k ≤ 31) (hv : v < 2 ^ k) (h : bt (nI v) i = true) : i < k := by
  refine Nat.lt_of_not_le fun z => ?_
  unfold bt at h
  replace h : (BitVec.ofNat 32 v).getLsbD i = true := h
  rw [BitVec.getLsbD_ofNat, Nat.testBit_lt_two_pow (Nat.lt_of_lt_of_le hv (Nat.pow_le_pow_right (by decide) z))] at h
  simp at h
theorem orb_self {n v : Nat} (hn : n < 7) (hv : v < 2 ^ pcn n n) : orb n v v := ⟨fun i => i, isP_id n, (img_id hn (fun i hi => bt_nIl (by have := (p_3 n hn).1; omega) hv hi)).symm⟩
theorem kdF_all {n : Nat} {ft : Nat → Bool} (hn : n < 7) : ∀ b, b ≤ 2 ^ pcn n n → ∀ v, v < b → ft v = true → (kdF n ft b).2 v
  | 0, _, v, h, _ => by omega
  | b + 1, hb, v, hv, hf => by
    by_cases h : ft b = true ∧ ¬ (kdF n ft b).2 b
    · rw [kdF_y h.1 h.2]
      by_cases e : v = b
      · subst e; exact Or.inr (orb_self hn hb)
      · exact Or.inl (kdF_all hn b (by omega) v (by omega) hf)
    · rw [kdF_n h]
      by_cases e : v = b
      · subst e
        exact Classical.byContradiction fun z => h ⟨hf, z⟩
      · exact kdF_all hn b (by omega) v (by omega) hf
theorem fwF_pc {ft : Nat → Bool} : ∀ b l m, fwF ft b = some (l, m) → l ≤ 32 ∧ m < b
  | 0, l, m, h => by cases h
  | b + 1, l, m, h => by
    have p1 := pc32_le (nI b)
    rw [fwF] at h
    split at h
    · split at h
      · cases h; exact ⟨p1, by omega⟩
      · split at h
        · cases h; exact ⟨p1, by omega⟩
        · cases h
          have := fwF_pc b _ _ (by assumption)
          omega
    · have := fwF_pc b l m h
      omega
noncomputable def smK (n d k : Nat) : Nat := (kdF n (ftN n d k) (2 ^ pcn n n)).1
def smM (n d k : Nat) : Nat := fb_ct (ftN n d k) (2 ^ pcn n n)
def smF (n d k : Nat) : Option (Nat × Nat) := fwF (ftN n d k) (2 ^ pcn n n)
theorem c_smRun (n d k : Nat) (told : Bool) (pr mn kd fw ls nn : Int32) (Fa Sa Is : Nat → Int32) (sn g sm : Int32) (D : Nat → Int32) (xn xd : Int32) (f Tu Im : Nat → Int32) (h1 : 1 ≤ n) (hn : n < 7) (hd : d < 9) (hk : k < 2 ^ 31) (hIs : ∀ v, v < 32768 → Is v = bI false) : zCtr yX4_run cX4_run 6 (some .int) 12 0 0 [zr 1 0, zi (nI n), zi (nI d), zi (nI k)] (wSm told pr mn kd fw ls nn Fa Sa Is sn g sm D xn xd f Tu Im) (fun r w => r = some (zi (nI (smM n d k))) ∧ ∃ Fa' Sa' Is' sn' g' sm' D' f' Tu', w = wSm true (nI (pcn n n)) (nI (smM n d k)) (nI (smK n d k)) (fwI (smF n d k)) (lsI (smF n d k)) (nI n) Fa' Sa' Is' sn' g' sm' D' (nI n) xd f' Tu' Im ∧ ∀ v, v < 32768 → Is' v = bI false) zNx := by
  refine z_start (by decide) [some (zr 1 0), some (zi (nI n)), some (zi (nI d)), some (zi (nI k)), none, none] rfl (fun _ => Nat.le_of_ble_eq_true rfl) (fun _ => rfl) (fun X F E hno hin => ?_)
  obtain ⟨h3, h3b⟩ := p_3 n hn
  have hpw : 2 ^ pcn n n ≤ 32768 := Nat.pow_le_pow_right (n := 2) (by decide) h3
  have hsh : nI 1 <<< (nI (pcn n n) &&& 31) = nI (2 ^ pcn n n) := b1_pw _ (by omega)
  have kinds : ∀ (Fa Sa : Nat → Int32), prA n Fa Sa → ∀ (m b : Nat) (Is : Nat → Int32) (sn g sm : Int32) (D f Tu : Nat → Int32), 2 ^ pcn n n - b < m → b ≤ 2 ^ pcn n n → (∀ v, v < 32768 → ((kdF n (ftN n d k) b).2 v → Is v = bI false) ∧ (¬ (kdF n (ftN n d k) b).2 v → Is v = bI (decide (v < 2 ^ pcn n n) && ftN n d k v))) → Z X [some (zr 1 0), some (zi (nI n)), some (zi (nI d)), some (zi (nI k)), some (zi (nI b)), none] [] (wSm told (nI (pcn n n)) (nI (smM n d k)) (nI (kdF n (ftN n d k) b).1) (fwI (smF n d k)) (lsI (smF n d k)) (nI n) Fa Sa Is sn g sm D (nI n) xd f Tu Im) 0 0 203 := by
    intro Fa Sa hP m
    induction m with
    | zero => intro b Is sn g sm D f Tu hm; omega
    | succ m ih =>
      intro b Is sn g sm D f Tu hm hb hI
      have hIb := hI b
      refine z_iload F dX4_run_203 rfl ?_
      refine z_iconst F (nI 1) dX4_run_205 rfl ?_
      refine z_aload_n F dX4_run_206 rfl ?_
      refine z_get F zC4 (f := 6) rfl (Nat.le_of_ble_eq_true rfl) q272 rfl dX4_run_207 ?_
      refine z_ishl F dX4_run_210 ?_
      refine z_ieq (hsh) ?_
      refine z_icmp_geN F (by omega) (by omega) (tgt := 251) dX4_run_211 (by decide) (fun c_211 => ?_) (fun c_211 => ?_)
      · refine z_aload_n F dX4_run_251 rfl ?_
        refine z_iconstB F true dX4_run_252 rfl ?_
        refine z_put F zC4 (f := 5) rfl (Nat.le_of_ble_eq_true rfl) q270 rfl (fun _ => rfl) (fun _ => rfl) (Nat.le_of_ble_eq_true rfl) dX4_run_253 ?_
        refine z_weq (w' := [_, zO _ [_, _, _, _, _, _, _, _, _, _, _, _, _, _], _, _, _, _, _, _, _, _, _]) rfl ?_
        refine z_aload_n F dX4_run_256 rfl ?_
        refine z_get F zC4 (f := 7) rfl (Nat.le_of_ble_eq_true rfl) q273 rfl dX4_run_257 ?_
        exact z_iret F E rfl dX4_run_260 (by omega) (by omega) (⟨rfl, Fa, Sa, Is, sn, g, sm, D, f, Tu, by rw [show b = 2 ^ pcn n n by omega]; rfl, fun v hv => by
  rw [show b = 2 ^ pcn n n by omega] at hI
  by_cases z : (kdF n (ftN n d k) (2 ^ pcn n n)).2 v
  · exact (hI v hv).1 z
  · rw [(hI v hv).2 z]
    cases e : (decide (v < 2 ^ pcn n n) && ftN n d k v) with
    | false => rfl
    | true =>
      rw [Bool.and_eq_true, decide_eq_true_eq] at e
      exact absurd (kdF_all hn _ (Nat.le_refl _) v e.1 e.2) z⟩)
      · obtain ⟨hI1, hI2⟩ := hIb (by omega)
        refine z_aload_n F dX4_run_214 rfl ?_
        refine z_get F zC4 (f := 2) rfl (Nat.le_of_ble_eq_true rfl) q267 rfl dX4_run_215 ?_
        refine z_iload F dX4_run_218 rfl ?_
        refine z_zaldN F rfl (Nat.le_of_ble_eq_true rfl) (by omega) rfl dX4_run_220 ?_
        refine z_if_ne F (tgt := 227) dX4_run_221 (by decide) (fun c_221 => ?_) (fun c_221 => ?_)
        · have hyes : ftN n d k b = true ∧ ¬ (kdF n (ftN n d k) b).2 b := by
            by_cases z : (kdF n (ftN n d k) b).2 b
            · rw [hI1 z] at c_221; exact absurd rfl c_221
            · refine ⟨?_, z⟩
              rw [hI2 z, decide_eq_true (show b < 2 ^ pcn n n by omega)] at c_221
              cases e : ftN n d k b with
              | true => rfl
              | false => rw [e] at c_221; exact absurd rfl c_221
          refine z_aload_n F dX4_run_227 rfl ?_
          refine z_dup F dX4_run_228 rfl ?_
          refine z_get F zC4 (f := 8) rfl (Nat.le_of_ble_eq_true rfl) q275 rfl dX4_run_229 ?_
          refine z_iconst F (nI 1) dX4_run_232 rfl ?_
          refine z_iaddN F dX4_run_233 ?_
          refine z_put F zC4 (f := 8) rfl (Nat.le_of_ble_eq_true rfl) q275 rfl (fun _ => rfl) (fun _ => rfl) (Nat.le_of_ble_eq_true rfl) dX4_run_234 ?_
          refine z_weq (w' := [_, zO _ [_, _, _, _, _, _, _, _, _, _, _, _, _, _], _, _, _, _, _, _, _, _, _]) rfl ?_
          refine z_aload_n F dX4_run_237 rfl ?_
          refine z_iload F dX4_run_238 rfl ?_
          refine z_iconst F (nI 0) dX4_run_240 rfl ?_
          refine z_iconst F (nI 0) dX4_run_241 rfl ?_
          refine z_callV F (c_smStrike n b told (nI (smM n d k)) _ _ _ Fa Sa sn g sm D _ _ f Im hn hP n 0 (nI 0) (fun i => i) Is Tu (by omega) (fun i hi => absurd hi (by omega)) (fun i j hi => absurd hi (by omega)) (fun v => ⟨fun z => by (rw [show bt (nI 0) v = false from b_0 v] at z; cases z), fun ⟨i, z, _⟩ => absurd z (by omega)⟩) (fun i hi => absurd hi (by omega))) 3 rfl (lw_V q1037 q1039 qs21 q115 q1040) (by decide +kernel) ⟨by omega, Nat.le_of_ble_eq_true rfl⟩ ⟨by omega, by omega⟩ [0, 1, 2, 3, 4, 5, 6, 7, 8, 9, 10] 11 ⟨rfl, rfl, rfl, ⟨Or.inl rfl, Or.inr rfl, Or.inr rfl, Or.inr rfl, Or.inr rfl, Or.inr rfl, Or.inr rfl, Or.inr rfl, Or.inr rfl, Or.inr rfl, Or.inr rfl, trivial⟩⟩ (fun h => nomatch h) (Nat.le_of_ble_eq_true rfl) ⟨⟨Or.inr trivial, Or.inl rfl, Or.inl rfl, Or.inl rfl, Or.inl rfl, Or.inl rfl, Or.inl rfl, Or.inl rfl, Or.inl rfl, Or.inl rfl, Or.inl rfl, trivial⟩, rfl, rfl, rfl, Nat.le_of_ble_eq_true rfl⟩ rfl zC4 rfl rfl dX4_run_242 (fun r_242 w_242 hp => ?_) (fun _ _ h => h.elim)
          obtain ⟨rfl, Is2, Tu2, rfl, s1, -⟩ := hp
          refine z_weq (w' := [zH, zO _ [zr _ _, zr _ _, zr _ _, zr _ _, zr _ _, zi _, zi _, zi _, zi _, zi _, zi _, zr _ _, zr _ _, zi _], zAi 0 15 _, zAi 0 15 _, zAi 2 32768 _, zO _ [zr _ _, zi _, zi _, zi _], zAi 0 24 _, zO _ [zi _, zi _, zr _ _], zAi 0 24 _, zAi 0 6 _, zAi 0 15 _]) rfl ?_
          refine z_seq (S' := []) rfl ?_
          refine z_iincN F 1 dX4_run_245 rfl rfl ?_
          refine z_leq (L' := [_, _, _, _, _, _]) rfl ?_
          refine z_goto F (tgt := 203) dX4_run_248 (by decide) ?_
          have i1 := ih (b + 1) Is2 sn g sm D f Tu2 (by omega) (by omega) (by
            rw [kdF_y hyes.1 hyes.2]
            intro v hv
            obtain ⟨t1, t2⟩ := s1 v hv
            obtain ⟨t3, t4⟩ := hI v hv
            have eo : imS n b 0 (fun i => i) v ↔ orb n b v := ⟨fun ⟨r, r1, _, r3⟩ => ⟨r, r1, r3⟩, fun ⟨r, r1, r3⟩ => ⟨r, r1, fun i hi => absurd hi (by omega), r3⟩⟩
            refine ⟨fun z => ?_, fun z => ?_⟩
            · by_cases y : orb n b v
              · exact t1 (eo.mpr y)
              · rw [t2 (fun w => y (eo.mp w))]
                exact t3 (Or.elim z id (fun w => absurd w y))
            · rw [t2 (fun w => z (Or.inr (eo.mp w)))]
              exact t4 (fun w => z (Or.inl w)))
          rw [kdF_y hyes.1 hyes.2] at i1
          refine z_loc _ ?_ i1
          exact ⟨rfl, rfl, rfl, rfl, rfl, trivial⟩
        · refine z_goto F (tgt := 245) dX4_run_224 (by decide) ?_
          refine z_iincN F 1 dX4_run_245 rfl rfl ?_
          refine z_leq (L' := [_, _, _, _, _, _]) rfl ?_
          refine z_goto F (tgt := 203) dX4_run_248 (by decide) ?_
          have hno : ¬ (ftN n d k b = true ∧ ¬ (kdF n (ftN n d k) b).2 b) := fun ⟨z1, z2⟩ => by
            rw [hI2 z2, z1, decide_eq_true (show b < 2 ^ pcn n n by omega)] at c_221
            exact absurd c_221 (by decide)
          have i1 := ih (b + 1) Is sn g sm D f Tu (by omega) (by omega) (by rw [kdF_n hno]; exact hI)
          rw [kdF_n hno] at i1
          exact i1
  have tail : ∀ (Fa Sa Is : Nat → Int32) (sn g sm : Int32) (D f Tu : Nat → Int32) (b mn : Nat), b < 2 ^ pcn n n → (Z X [some (zr 1 0), some (zi (nI n)), some (zi (nI d)), some (zi (nI k)), some (zi (nI (b + 1))), none] [] (wSm told (nI (pcn n n)) (nI (mn + 1)) (nI 0) (fwI (match fwF (ftN n d k) b with
        | none => some (pc32 (nI b), b)
        | some (l, m) => if pc32 (nI b) < l then some (pc32 (nI b), b) else some (l, m))) (lsI (match fwF (ftN n d k) b with
        | none => some (pc32 (nI b), b)
        | some (l, m) => if pc32 (nI b) < l then some (pc32 (nI b), b) else some (l, m))) (nI n) Fa Sa Is sn g sm D (nI n) xd f Tu Im) 0 0 112) →
      Z X [some (zr 1 0), some (zi (nI n)), some (zi (nI d)), some (zi (nI k)), some (zi (nI b)), none] [] (wSm told (nI (pcn n n)) (nI (mn + 1)) (nI 0) (fwI (fwF (ftN n d k) b)) (lsI (fwF (ftN n d k) b)) (nI n) Fa Sa Is sn g sm D (nI n) xd f Tu Im) 0 0 155 := by
    intro Fa Sa Is sn g sm D f Tu b mn hb kk
    have p1 := pc32_le (nI b)
    rcases hfw : fwF (ftN n d k) b with _ | ⟨l0, m0⟩
    ·
      rw [hfw] at kk
      refine z_iload F dX4_run_155 rfl ?_
      refine z_callS F (c_bitCount (nI b)) 1 rfl (lw_S q1036 q395 q123 q396) (by decide +kernel) ⟨Nat.le_of_ble_eq_true rfl, Nat.le_of_ble_eq_true rfl⟩ ⟨by omega, by omega⟩ [0] 11 ⟨rfl, rfl, rfl, ⟨Or.inl rfl, trivial⟩⟩ (fun h => nomatch h) (Nat.le_of_ble_eq_true rfl) ⟨⟨Or.inr trivial, Or.inr rfl, Or.inr trivial, Or.inr trivial, Or.inr trivial, Or.inr rfl, Or.inr trivial, Or.inr rfl, Or.inr trivial, Or.inr trivial, Or.inr trivial, trivial⟩, rfl, rfl, rfl, Nat.le_of_ble_eq_true rfl⟩ rfl rfl dX4_run_157 (fun r_157 w_157 hp => ?_) (fun _ _ h => h.elim)
      obtain ⟨rfl, rfl⟩ := hp
      refine z_weq (w' := [zH, zO _ [zr _ _, zr _ _, zr _ _, zr _ _, zr _ _, zi _, zi _, zi _, zi _, zi _, zi _, zr _ _, zr _ _, zi _], zAi 0 15 _, zAi 0 15 _, zAi 2 32768 _, zO _ [zr _ _, zi _, zi _, zi _], zAi 0 24 _, zO _ [zi _, zi _, zr _ _], zAi 0 24 _, zAi 0 6 _, zAi 0 15 _]) rfl ?_
      refine z_seq (S' := zi _ :: _) rfl ?_
      refine z_istore F dX4_run_160 (Nat.le_of_ble_eq_true rfl) ?_
      refine z_leq (L' := [_, _, _, _, _, _]) rfl ?_
      refine z_aload_n F dX4_run_162 rfl ?_
      refine z_get F zC4 (f := 9) rfl (Nat.le_of_ble_eq_true rfl) q277 rfl dX4_run_163 ?_
      refine z_iconst F (-1) dX4_run_166 rfl ?_
      refine z_icmp_eq F (tgt := 182) dX4_run_167 (by decide) (fun c_167 => ?_) (fun c_167 => ?_)
      · refine z_aload_n F dX4_run_182 rfl ?_
        refine z_iload F dX4_run_183 rfl ?_
        refine z_put F zC4 (f := 9) rfl (Nat.le_of_ble_eq_true rfl) q277 rfl (fun _ => rfl) (fun _ => rfl) (Nat.le_of_ble_eq_true rfl) dX4_run_185 ?_
        refine z_weq (w' := [_, zO _ [_, _, _, _, _, _, _, _, _, _, _, _, _, _], _, _, _, _, _, _, _, _, _]) rfl ?_
        refine z_aload_n F dX4_run_188 rfl ?_
        refine z_iload F dX4_run_189 rfl ?_
        refine z_put F zC4 (f := 10) rfl (Nat.le_of_ble_eq_true rfl) q279 rfl (fun _ => rfl) (fun _ => rfl) (Nat.le_of_ble_eq_true rfl) dX4_run_191 ?_
        refine z_weq (w' := [_, zO _ [_, _, _, _, _, _, _, _, _, _, _, _, _, _], _, _, _, _, _, _, _, _, _]) rfl ?_
        refine z_iincN F 1 dX4_run_194 rfl rfl ?_
        refine z_leq (L' := [_, _, _, _, _, _]) rfl ?_
        refine z_goto F (tgt := 112) dX4_run_197 (by decide) ?_
        refine z_loc _ ?_ kk
        exact ⟨rfl, rfl, rfl, rfl, rfl, trivial⟩
      · exact absurd rfl c_167
    rw [hfw] at kk
    have hq := fwF_pc b l0 m0 hfw
    replace kk : Z X [some (zr 1 0), some (zi (nI n)), some (zi (nI d)), some (zi (nI k)), some (zi (nI (b + 1))), none] [] (wSm told (nI (pcn n n)) (nI (mn + 1)) (nI 0) (fwI (if pc32 (nI b) < l0 then some (pc32 (nI b), b) else some (l0, m0))) (lsI (if pc32 (nI b) < l0 then some (pc32 (nI b), b) else some (l0, m0))) (nI n) Fa Sa Is sn g sm D (nI n) xd f Tu Im) 0 0 112 := kk
    refine z_weq (w' := wSm told (nI (pcn n n)) (nI (mn + 1)) (nI 0) (nI l0) (nI m0) (nI n) Fa Sa Is sn g sm D (nI n) xd f Tu Im) rfl ?_
    refine z_iload F dX4_run_155 rfl ?_
    refine z_callS F (c_bitCount (nI b)) 1 rfl (lw_S q1036 q395 q123 q396) (by decide +kernel) ⟨Nat.le_of_ble_eq_true rfl, Nat.le_of_ble_eq_true rfl⟩ ⟨by omega, by omega⟩ [0] 11 ⟨rfl, rfl, rfl, ⟨Or.inl rfl, trivial⟩⟩ (fun h => nomatch h) (Nat.le_of_ble_eq_true rfl) ⟨⟨Or.inr trivial, Or.inr rfl, Or.inr trivial, Or.inr trivial, Or.inr trivial, Or.inr rfl, Or.inr trivial, Or.inr rfl, Or.inr trivial, Or.inr trivial, Or.inr trivial, trivial⟩, rfl, rfl, rfl, Nat.le_of_ble_eq_true rfl⟩ rfl rfl dX4_run_157 (fun r_157 w_157 hp => ?_) (fun _ _ h => h.elim)
    obtain ⟨rfl, rfl⟩ := hp
    refine z_weq (w' := [zH, zO _ [zr _ _, zr _ _, zr _ _, zr _ _, zr _ _, zi _, zi _, zi _, zi _, zi _, zi _, zr _ _, zr _ _, zi _], zAi 0 15 _, zAi 0 15 _, zAi 2 32768 _, zO _ [zr _ _, zi _, zi _, zi _], zAi 0 24 _, zO _ [zi _, zi _, zr _ _], zAi 0 24 _, zAi 0 6 _, zAi 0 15 _]) rfl ?_
    refine z_seq (S' := zi _ :: _) rfl ?_
    refine z_istore F dX4_run_160 (Nat.le_of_ble_eq_true rfl) ?_
    refine z_leq (L' := [_, _, _, _, _, _]) rfl ?_
    refine z_aload_n F dX4_run_162 rfl ?_
    refine z_get F zC4 (f := 9) rfl (Nat.le_of_ble_eq_true rfl) q277 rfl dX4_run_163 ?_
    refine z_iconst F (-1) dX4_run_166 rfl ?_
    refine z_icmp_eq F (tgt := 182) dX4_run_167 (by decide) (fun c_167 => ?_) (fun c_167 => ?_)
    · exact absurd c_167 (nI_ne (by omega))
    · refine z_iload F dX4_run_170 rfl ?_
      refine z_aload_n F dX4_run_172 rfl ?_
      refine z_get F zC4 (f := 9) rfl (Nat.le_of_ble_eq_true rfl) q277 rfl dX4_run_173 ?_
      refine z_icmp_ltN F (by omega) (by omega) (tgt := 182) dX4_run_176 (by decide) (fun c_176 => ?_) (fun c_176 => ?_)
      · refine z_aload_n F dX4_run_182 rfl ?_
        refine z_iload F dX4_run_183 rfl ?_
        refine z_put F zC4 (f := 9) rfl (Nat.le_of_ble_eq_true rfl) q277 rfl (fun _ => rfl) (fun _ => rfl) (Nat.le_of_ble_eq_true rfl) dX4_run_185 ?_
        refine z_weq (w' := [_, zO _ [_, _, _, _, _, _, _, _, _, _, _, _, _, _], _, _, _, _, _, _, _, _, _]) rfl ?_
        refine z_aload_n F dX4_run_188 rfl ?_
        refine z_iload F dX4_run_189 rfl ?_
        refine z_put F zC4 (f := 10) rfl (Nat.le_of_ble_eq_true rfl) q279 rfl (fun _ => rfl) (fun _ => rfl) (Nat.le_of_ble_eq_true rfl) dX4_run_191 ?_
        refine z_weq (w' := [_, zO _ [_, _, _, _, _, _, _, _, _, _, _, _, _, _], _, _, _, _, _, _, _, _, _]) rfl ?_
        refine z_iincN F 1 dX4_run_194 rfl rfl ?_
        refine z_leq (L' := [_, _, _, _, _, _]) rfl ?_
        refine z_goto F (tgt := 112) dX4_run_197 (by decide) ?_
        rw [if_pos (by omega)] at kk
        refine z_loc _ ?_ kk
        exact ⟨rfl, rfl, rfl, rfl, rfl, trivial⟩
      · refine z_goto F (tgt := 194) dX4_run_179 (by decide) ?_
        refine z_iincN F 1 dX4_run_194 rfl rfl ?_
        refine z_leq (L' := [_, _, _, _, _, _]) rfl ?_
        refine z_goto F (tgt := 112) dX4_run_197 (by decide) ?_
        rw [if_neg (by omega)] at kk
        refine z_loc _ ?_ kk
        exact ⟨rfl, rfl, rfl, rfl, rfl, trivial⟩
  have scan : ∀ (Fa Sa : Nat → Int32), prA n Fa Sa → ∀ (m b : Nat) (Is : Nat → Int32) (sn g sm : Int32) (D f Tu : Nat → Int32), 2 ^ pcn n n - b < m → b ≤ 2 ^ pcn n n → (∀ v, v < 32768 → Is v = bI (decide (v < b) && ftN n d k v)) → Z X [some (zr 1 0), some (zi (nI n)), some (zi (nI d)), some (zi (nI k)), some (zi (nI b)), none] [] (wSm told (nI (pcn n n)) (nI (fb_ct (ftN n d k) b)) (nI 0) (fwI (fwF (ftN n d k) b)) (lsI (fwF (ftN n d k) b)) (nI n) Fa Sa Is sn g sm D (nI n) xd f Tu Im) 0 0 112 := by
    intro Fa Sa hP m
    induction m with
    | zero => intro b Is sn g sm D f Tu hm; omega
    | succ m ih =>
      intro b Is sn g sm D f Tu hm hb hI
      have p1 := pc32_le (nI b)
      have i1 := fun Is sn g sm D f Tu z => ih (b + 1) Is sn g sm D f Tu (by omega) z
      rw [fb_ct_succ, fwF] at i1
      refine z_iload F dX4_run_112 rfl ?_
      refine z_iconst F (nI 1) dX4_run_114 rfl ?_
      refine z_aload_n F dX4_run_115 rfl ?_
      refine z_get F zC4 (f := 6) rfl (Nat.le_of_ble_eq_true rfl) q272 rfl dX4_run_116 ?_
      refine z_ishl F dX4_run_119 ?_
      refine z_ieq (hsh) ?_
      refine z_icmp_geN F (by omega) (by omega) (tgt := 200) dX4_run_120 (by decide) (fun c_120 => ?_) (fun c_120 => ?_)
      · refine z_iconst F (nI 0) dX4_run_200 rfl ?_
        refine z_istore F dX4_run_201 (Nat.le_of_ble_eq_true rfl) ?_
        refine z_leq (L' := [_, _, _, _, _, _]) rfl ?_
        rw [show b = 2 ^ pcn n n by omega] at hI ⊢
        exact kinds Fa Sa hP _ 0 Is sn g sm D f Tu (Nat.lt_succ_self _) (Nat.zero_le _) (fun v hv => ⟨fun z => z.elim, fun _ => hI v hv⟩)
      · refine z_aload_n F dX4_run_123 rfl ?_
        refine z_iload F dX4_run_124 rfl ?_
        refine z_iload_n F dX4_run_126 rfl ?_
        refine z_iload_n F dX4_run_127 rfl ?_
        refine z_callV F (c_smFits n d k b told _ _ _ _ Fa Sa Is sn g sm D xd f Tu Im h1 hn hd hk hP) 3 rfl (lw_V q1027 q1029 qs20 q115 q1030) (by decide +kernel) ⟨Nat.le_of_ble_eq_true rfl, Nat.le_of_ble_eq_true rfl⟩ ⟨by omega, by omega⟩ [0, 1, 2, 3, 4, 5, 6, 7, 8, 9, 10] 11 ⟨rfl, rfl, rfl, ⟨Or.inl rfl, Or.inr rfl, Or.inr rfl, Or.inr rfl, Or.inr rfl, Or.inr rfl, Or.inr rfl, Or.inr rfl, Or.inr rfl, Or.inr rfl, Or.inr rfl, trivial⟩⟩ (fun h => nomatch h) (Nat.le_of_ble_eq_true rfl) ⟨⟨Or.inr trivial, Or.inl rfl, Or.inl rfl, Or.inl rfl, Or.inl rfl, Or.inl rfl, Or.inl rfl, Or.inl rfl, Or.inl rfl, Or.inl rfl, Or.inl rfl, trivial⟩, rfl, rfl, rfl, Nat.le_of_ble_eq_true rfl⟩ rfl zC4 rfl rfl dX4_run_128 (fun r_128 w_128 hp => ?_) (fun _ _ h => h.elim)
        obtain ⟨rfl, sn1, g1, sm1, D1, f1, rfl⟩ := hp
        refine z_weq (w' := [zH, zO _ [zr _ _, zr _ _, zr _ _, zr _ _, zr _ _, zi _, zi _, zi _, zi _, zi _, zi _, zr _ _, zr _ _, zi _], zAi 0 15 _, zAi 0 15 _, zAi 2 32768 _, zO _ [zr _ _, zi _, zi _, zi _], zAi 0 24 _, zO _ [zi _, zi _, zr _ _], zAi 0 24 _, zAi 0 6 _, zAi 0 15 _]) rfl ?_
        refine z_seq (S' := zi _ :: _) rfl ?_
        refine z_if_neB F (tgt := 137) dX4_run_131 (by decide) (fun c_131 => ?_) (fun c_131 => ?_)
        · have cft : ftN n d k b = true := c_131
          refine z_aload_n F dX4_run_137 rfl ?_
          refine z_get F zC4 (f := 2) rfl (Nat.le_of_ble_eq_true rfl) q267 rfl dX4_run_138 ?_
          refine z_iload F dX4_run_141 rfl ?_
          refine z_iconst F (nI 1) dX4_run_143 rfl ?_
          refine z_zastN F rfl (Nat.le_of_ble_eq_true rfl) (by omega) dX4_run_144 ?_
          refine z_weq (w' := [_, _, _, _, _, _, _, _, _, _, _]) rfl ?_
          refine z_aload_n F dX4_run_145 rfl ?_
          refine z_dup F dX4_run_146 rfl ?_
          refine z_get F zC4 (f := 7) rfl (Nat.le_of_ble_eq_true rfl) q273 rfl dX4_run_147 ?_
          refine z_iconst F (nI 1) dX4_run_150 rfl ?_
          refine z_iaddN F dX4_run_151 ?_
          refine z_put F zC4 (f := 7) rfl (Nat.le_of_ble_eq_true rfl) q273 rfl (fun _ => rfl) (fun _ => rfl) (Nat.le_of_ble_eq_true rfl) dX4_run_152 ?_
          refine z_weq (w' := [_, zO _ [_, _, _, _, _, _, _, _, _, _, _, _, _, _], _, _, _, _, _, _, _, _, _]) rfl ?_
          have i2 := i1 (upd Is b (vp_nar .boolean (nI 1))) sn1 g1 sm1 D1 f1 Tu (by omega) (fun v hv => by
            show (if v = b then _ else Is v) = _
            by_cases e : v = b
            · rw [if_pos e, e, cft, decide_eq_true (show b < b + 1 by omega)]; rfl
            · rw [if_neg e, hI v hv, show decide (v < b + 1) = decide (v < b) from by by_cases q : v < b <;> simp [q] <;> omega])
          rw [cft, if_pos rfl, if_pos rfl] at i2
          exact tail Fa Sa (upd Is b (vp_nar .boolean (nI 1))) sn1 g1 sm1 D1 f1 Tu b (fb_ct (ftN n d k) b) (by omega) i2
        · have cft : ftN n d k b = false := c_131
          refine z_goto F (tgt := 194) dX4_run_134 (by decide) ?_
          refine z_iincN F 1 dX4_run_194 rfl rfl ?_
          refine z_leq (L' := [_, _, _, _, _, _]) rfl ?_
          refine z_goto F (tgt := 112) dX4_run_197 (by decide) ?_
          have i2 := i1 Is sn1 g1 sm1 D1 f1 Tu (by omega) (fun v hv => by
            rw [hI v hv]
            by_cases e : v = b
            · rw [e, cft, Bool.and_false, Bool.and_false]
            · rw [show decide (v < b + 1) = decide (v < b) from by by_cases q : v < b <;> simp [q] <;> omega])
          rw [cft, if_neg (by decide), if_neg (by decide)] at i2
          exact i2
  have prs2 : ∀ (Is : Nat → Int32) (sn g sm : Int32) (D f Tu : Nat → Int32), (∀ v, v < 32768 → Is v = bI false) → ∀ (a : Nat), a < n → (∀ Fa Sa, (∀ p, p < pcn n (a + 1) → Fa p = nI (pf n p) ∧ Sa p = nI (ps n p)) → Z X [some (zr 1 0), some (zi (nI n)), some (zi (nI d)), some (zi (nI k)), some (zi (nI (a + 1))), none] [] (wSm told (nI (pcn n (a + 1))) (nI 0) (nI 0) (-1) (-1) (nI n) Fa Sa Is sn g sm D (nI n) xd f Tu Im) 0 0 41) →
      ∀ (m b : Nat) (Fa Sa : Nat → Int32), n - b < m → a < b → b ≤ n → (∀ p, p < pidx n a b → Fa p = nI (pf n p) ∧ Sa p = nI (ps n p)) → Z X [some (zr 1 0), some (zi (nI n)), some (zi (nI d)), some (zi (nI k)), some (zi (nI a)), some (zi (nI b))] [] (wSm told (nI (pidx n a b)) (nI 0) (nI 0) (-1) (-1) (nI n) Fa Sa Is sn g sm D (nI n) xd f Tu Im) 0 0 56 := by
    intro Is sn g sm D f Tu hI a ha kk m
    induction m with
    | zero => intro b Fa Sa hm; omega
    | succ m ih =>
      intro b Fa Sa hm hab hbn hP
      have q0 := fun z => p_1 n hn a (by omega) b (by omega) hab z
      refine z_iload F dX4_run_56 rfl ?_
      refine z_aload_n F dX4_run_58 rfl ?_
      refine z_get F zC4 (f := 13) rfl (Nat.le_of_ble_eq_true rfl) q283 rfl dX4_run_59 ?_
      refine z_icmp_geN F (by omega) (by omega) (tgt := 103) dX4_run_62 (by decide) (fun c_62 => ?_) (fun c_62 => ?_)
      · have e : pidx n a b = pcn n (a + 1) := by rw [show b = n by omega]; show pcn n a + (n - a - 1) = pcn n a + (n - 1 - a); omega
        rw [e] at hP ⊢
        refine z_iincN F 1 dX4_run_103 rfl rfl ?_
        refine z_leq (L' := [_, _, _, _, _, _]) rfl ?_
        refine z_goto F (tgt := 41) dX4_run_106 (by decide) ?_
        refine z_loc _ ?_ (kk Fa Sa hP)
        exact ⟨rfl, rfl, rfl, rfl, rfl, trivial⟩
      · obtain ⟨q1, q2, q3⟩ := q0 (by omega)
        have e : pidx n a (b + 1) = pidx n a b + 1 := by show pcn n a + (b + 1 - a - 1) = pcn n a + (b - a - 1) + 1; omega
        have i1 := ih (b + 1) (upd Fa (pidx n a b) (nI a)) (upd Sa (pidx n a b) (nI b)) (by omega) (by omega) (by omega)
        rw [e] at i1
        refine z_aload_n F dX4_run_65 rfl ?_
        refine z_get F zC4 (f := 0) rfl (Nat.le_of_ble_eq_true rfl) q265 rfl dX4_run_66 ?_
        refine z_aload_n F dX4_run_69 rfl ?_
        refine z_get F zC4 (f := 6) rfl (Nat.le_of_ble_eq_true rfl) q272 rfl dX4_run_70 ?_
        refine z_iload F dX4_run_73 rfl ?_
        refine z_iastN F rfl (Nat.le_of_ble_eq_true rfl) (by omega) dX4_run_75 ?_
        refine z_weq (w' := [_, _, _, _, _, _, _, _, _, _, _]) rfl ?_
        refine z_aload_n F dX4_run_76 rfl ?_
        refine z_get F zC4 (f := 1) rfl (Nat.le_of_ble_eq_true rfl) q266 rfl dX4_run_77 ?_
        refine z_aload_n F dX4_run_80 rfl ?_
        refine z_get F zC4 (f := 6) rfl (Nat.le_of_ble_eq_true rfl) q272 rfl dX4_run_81 ?_
        refine z_iload F dX4_run_84 rfl ?_
        refine z_iastN F rfl (Nat.le_of_ble_eq_true rfl) (by omega) dX4_run_86 ?_
        refine z_weq (w' := [_, _, _, _, _, _, _, _, _, _, _]) rfl ?_
        refine z_aload_n F dX4_run_87 rfl ?_
        refine z_dup F dX4_run_88 rfl ?_
        refine z_get F zC4 (f := 6) rfl (Nat.le_of_ble_eq_true rfl) q272 rfl dX4_run_89 ?_
        refine z_iconst F (nI 1) dX4_run_92 rfl ?_
        refine z_iaddN F dX4_run_93 ?_
        refine z_put F zC4 (f := 6) rfl (Nat.le_of_ble_eq_true rfl) q272 rfl (fun _ => rfl) (fun _ => rfl) (Nat.le_of_ble_eq_true rfl) dX4_run_94 ?_
        refine z_weq (w' := [_, zO _ [_, _, _, _, _, _, _, _, _, _, _, _, _, _], _, _, _, _, _, _, _, _, _]) rfl ?_
        refine z_iincN F 1 dX4_run_97 rfl rfl ?_
        refine z_leq (L' := [_, _, _, _, _, _]) rfl ?_
        refine z_goto F (tgt := 56) dX4_run_100 (by decide) ?_
        refine i1 (fun p hp => ?_)
        show (if p = pidx n a b then _ else Fa p) = _ ∧ (if p = pidx n a b then _ else Sa p) = _
        by_cases y : p = pidx n a b
        · rw [if_pos y, if_pos y, y, q2, q3]; exact ⟨rfl, rfl⟩
        · rw [if_neg y, if_neg y]; exact hP p (by omega)
  have prs1 : ∀ (Is : Nat → Int32) (sn g sm : Int32) (D f Tu : Nat → Int32), (∀ v, v < 32768 → Is v = bI false) → ∀ (m a : Nat) (Fa Sa : Nat → Int32), n - a < m → a ≤ n → (∀ p, p < pcn n a → Fa p = nI (pf n p) ∧ Sa p = nI (ps n p)) → Z X [some (zr 1 0), some (zi (nI n)), some (zi (nI d)), some (zi (nI k)), some (zi (nI a)), none] [] (wSm told (nI (pcn n a)) (nI 0) (nI 0) (-1) (-1) (nI n) Fa Sa Is sn g sm D (nI n) xd f Tu Im) 0 0 41 := by
    intro Is sn g sm D f Tu hI m
    induction m with
    | zero => intro a Fa Sa hm; omega
    | succ m ih =>
      intro a Fa Sa hm ha hP
      refine z_iload F dX4_run_41 rfl ?_
      refine z_aload_n F dX4_run_43 rfl ?_
      refine z_get F zC4 (f := 13) rfl (Nat.le_of_ble_eq_true rfl) q283 rfl dX4_run_44 ?_
      refine z_icmp_geN F (by omega) (by omega) (tgt := 109) dX4_run_47 (by decide) (fun c_47 => ?_) (fun c_47 => ?_)
      · obtain rfl : a = n := by omega
        refine z_iconst F (nI 0) dX4_run_109 rfl ?_
        refine z_istore F dX4_run_110 (Nat.le_of_ble_eq_true rfl) ?_
        refine z_leq (L' := [_, _, _, _, _, _]) rfl ?_
        exact scan Fa Sa hP _ 0 Is sn g sm D f Tu (Nat.lt_succ_self _) (Nat.zero_le _) (fun v hv => hI v hv)
      · refine z_iload F dX4_run_50 rfl ?_
        refine z_iconst F (nI 1) dX4_run_52 rfl ?_
        refine z_iaddN F dX4_run_53 ?_
        refine z_istore F dX4_run_54 (Nat.le_of_ble_eq_true rfl) ?_
        refine z_leq (L' := [_, _, _, _, _, _]) rfl ?_
        have e : pidx n a (a + 1) = pcn n a := by show pcn n a + (a + 1 - a - 1) = pcn n a; omega
        have r1 := prs2 Is sn g sm D f Tu hI a (by omega) (fun Fa2 Sa2 q => ih (a + 1) Fa2 Sa2 (by omega) (by omega) q) (n + 1) (a + 1) Fa Sa (by omega) (by omega) (by omega) (by rw [e]; exact hP)
        rw [e] at r1
        exact r1
  refine z_aload_n F dX4_run_0 rfl ?_
  refine z_iload_n F dX4_run_1 rfl ?_
  refine z_put F zC4 (f := 13) rfl (Nat.le_of_ble_eq_true rfl) q283 rfl (fun _ => rfl) (fun _ => rfl) (Nat.le_of_ble_eq_true rfl) dX4_run_2 ?_
  refine z_weq (w' := [_, zO _ [_, _, _, _, _, _, _, _, _, _, _, _, _, _], _, _, _, _, _, _, _, _, _]) rfl ?_
  refine z_aload_n F dX4_run_5 rfl ?_
  refine z_get F zC4 (f := 4) rfl (Nat.le_of_ble_eq_true rfl) q269 rfl dX4_run_6 ?_
  refine z_iload_n F dX4_run_9 rfl ?_
  refine z_putN F zC5 (f := 0) rfl (Nat.le_of_ble_eq_true rfl) q243 rfl (fun _ => rfl) (fun _ => rfl) (Nat.le_of_ble_eq_true rfl) dX4_run_10 ?_
  refine z_weq (w' := [_, _, _, _, _, _, _, zO _ [_, _, _], _, _, _]) rfl ?_
  refine z_aload_n F dX4_run_13 rfl ?_
  refine z_iconst F (nI 0) dX4_run_14 rfl ?_
  refine z_put F zC4 (f := 6) rfl (Nat.le_of_ble_eq_true rfl) q272 rfl (fun _ => rfl) (fun _ => rfl) (Nat.le_of_ble_eq_true rfl) dX4_run_15 ?_
  refine z_weq (w' := [_, zO _ [_, _, _, _, _, _, _, _, _, _, _, _, _, _], _, _, _, _, _, _, _, _, _]) rfl ?_
  refine z_aload_n F dX4_run_18 rfl ?_
  refine z_iconst F (nI 0) dX4_run_19 rfl ?_
  refine z_put F zC4 (f := 7) rfl (Nat.le_of_ble_eq_true rfl) q273 rfl (fun _ => rfl) (fun _ => rfl) (Nat.le_of_ble_eq_true rfl) dX4_run_20 ?_
  refine z_weq (w' := [_, zO _ [_, _, _, _, _, _, _, _, _, _, _, _, _, _], _, _, _, _, _, _, _, _, _]) rfl ?_
  refine z_aload_n F dX4_run_23 rfl ?_
  refine z_iconst F (nI 0) dX4_run_24 rfl ?_
  refine z_put F zC4 (f := 8) rfl (Nat.le_of_ble_eq_true rfl) q275 rfl (fun _ => rfl) (fun _ => rfl) (Nat.le_of_ble_eq_true rfl) dX4_run_25 ?_
  refine z_weq (w' := [_, zO _ [_, _, _, _, _, _, _, _, _, _, _, _, _, _], _, _, _, _, _, _, _, _, _]) rfl ?_
  refine z_aload_n F dX4_run_28 rfl ?_
  refine z_iconst F (-1) dX4_run_29 rfl ?_
  refine z_put F zC4 (f := 9) rfl (Nat.le_of_ble_eq_true rfl) q277 rfl (fun _ => rfl) (fun _ => rfl) (Nat.le_of_ble_eq_true rfl) dX4_run_30 ?_
  refine z_weq (w' := [_, zO _ [_, _, _, _, _, _, _, _, _, _, _, _, _, _], _, _, _, _, _, _, _, _, _]) rfl ?_
  refine z_aload_n F dX4_run_33 rfl ?_
  refine z_iconst F (-1) dX4_run_34 rfl ?_
  refine z_put F zC4 (f := 10) rfl (Nat.le_of_ble_eq_true rfl) q279 rfl (fun _ => rfl) (fun _ => rfl) (Nat.le_of_ble_eq_true rfl) dX4_run_35 ?_
  refine z_weq (w' := [_, zO _ [_, _, _, _, _, _, _, _, _, _, _, _, _, _], _, _, _, _, _, _, _, _, _]) rfl ?_
  refine z_iconst F (nI 0) dX4_run_38 rfl ?_
  refine z_istore F dX4_run_39 (Nat.le_of_ble_eq_true rfl) ?_
  refine z_leq (L' := [_, _, _, _, _, _]) rfl ?_
  exact prs1 Is sn g sm D f Tu hIs (n + 1) 0 Fa Sa (by omega) (by omega) (fun p hp => absurd hp (by rw [show pcn n 0 = 0 from rfl]; omega))
abbrev xSm (t : Nat) (fp : Int32) (told : Bool) (pr mn kd fw ls nn : Int32) (Fa Sa Is : Nat → Int32) (sn g sm : Int32) (D : Nat → Int32) (xn xd : Int32) (f Tu Im : Nat → Int32) : List zE := [zH, xO t fp, zH, zH, zH, zH, zH, zH, zH, zH, zH, eSm told pr mn kd fw ls nn, zAi 0 15 Fa, zAi 0 15 Sa, zAi 2 32768 Is, eFl 16 sn g sm, zAi 0 24 D, eNet 18 xn xd, zAi 0 24 f, zAi 0 6 Tu, zAi 0 15 Im, zH]
theorem c_psmall (t : Nat) (fp : Int32) (n d k : Nat) (told : Bool) (pr mn kd fw ls nn : Int32) (Fa Sa Is : Nat → Int32) (sn g sm : Int32) (D : Nat → Int32) (xn xd : Int32) (f Tu Im : Nat → Int32) (h1 : 1 ≤ n) (hn : n < 7) (hd1 : 1 ≤ d) (hd : d < 9) (hk : k < 2 ^ 31) (hIs : ∀ v, v < 32768 → Is v = bI false) : zCtr yX1_small cX1_small 4 (some .int) 14 1 6 [zr 1 0, zi (nI n), zi (nI d), zi (nI k)] (xSm t fp told pr mn kd fw ls nn Fa Sa Is sn g sm D xn xd f Tu Im) (fun r w => r = some (zi (nI (smM n d k))) ∧ ∃ Fa' Sa' Is' sn' g' sm' D' f' Tu', w = xSm t fp true (nI (pcn n n)) (nI (smM n d k)) (nI (smK n d k)) (fwI (smF n d k)) (lsI (smF n d k)) (nI n) Fa' Sa' Is' sn' g' sm' D' (nI n) xd f' Tu' Im ∧ ∀ v, v < 32768 → Is' v = bI false) zNx := by
  refine z_start (by decide) [some (zr 1 0), some (zi (nI n)), some (zi (nI d)), some (zi (nI k))] rfl (fun _ => Nat.le_of_ble_eq_true rfl) (fun _ => rfl) (fun X F E hno hin => ?_)
  refine z_iload_n F dX1_small_0 rfl ?_
  refine z_iconst F (nI 1) dX1_small_1 rfl ?_
  refine z_bipush F (nI 6) dX1_small_2 rfl ?_
  refine z_callS F (c_in (nI n) (nI 1) (nI 6)) 3 rfl (lw_S q349 q350 q109 q351) (by decide +kernel) ⟨Nat.le_of_ble_eq_true rfl, Nat.le_of_ble_eq_true rfl⟩ ⟨by omega, by omega⟩ [0] 22 ⟨rfl, rfl, rfl, ⟨Or.inl rfl, trivial⟩⟩ (fun h => nomatch h) (Nat.le_of_ble_eq_true rfl) ⟨⟨Or.inr trivial, Or.inr rfl, Or.inr trivial, Or.inr trivial, Or.inr trivial, Or.inr trivial, Or.inr trivial, Or.inr trivial, Or.inr trivial, Or.inr trivial, Or.inr trivial, Or.inr rfl, Or.inr trivial, Or.inr trivial, Or.inr trivial, Or.inr rfl, Or.inr trivial, Or.inr rfl, Or.inr trivial, Or.inr trivial, Or.inr trivial, Or.inr trivial, trivial⟩, rfl, rfl, rfl, Nat.le_of_ble_eq_true rfl⟩ rfl rfl dX1_small_4 (fun r_4 w_4 hp => ?_) (fun _ _ h => h.elim)
  obtain ⟨rfl, rfl⟩ := hp
  refine z_weq (w' := [zH, zO _ [zr _ _, zr _ _, zr _ _, zr _ _, zr _ _, zi _, zi _, zr _ _, zr _ _], zH, zH, zH, zH, zH, zH, zH, zH, zH, zO _ [zr _ _, zr _ _, zr _ _, zr _ _, zr _ _, zi _, zi _, zi _, zi _, zi _, zi _, zr _ _, zr _ _, zi _], zAi 0 15 _, zAi 0 15 _, zAi 2 32768 _, zO _ [zr _ _, zi _, zi _, zi _], zAi 0 24 _, zO _ [zi _, zi _, zr _ _], zAi 0 24 _, zAi 0 6 _, zAi 0 15 _, zH]) rfl ?_
  refine z_seq (S' := zi _ :: _) rfl ?_
  refine z_if_eqB F (tgt := 28) dX1_small_7 (by decide) (fun c_7 => ?_) (fun c_7 => ?_)
  · rw [inB_nn h1 (by omega) (by omega)] at c_7; cases c_7
  · refine z_iload_n F dX1_small_10 rfl ?_
    refine z_iconst F (nI 1) dX1_small_11 rfl ?_
    refine z_bipush F (nI 8) dX1_small_12 rfl ?_
    refine z_callS F (c_in (nI d) (nI 1) (nI 8)) 3 rfl (lw_S q349 q350 q109 q351) (by decide +kernel) ⟨Nat.le_of_ble_eq_true rfl, Nat.le_of_ble_eq_true rfl⟩ ⟨by omega, by omega⟩ [0] 22 ⟨rfl, rfl, rfl, ⟨Or.inl rfl, trivial⟩⟩ (fun h => nomatch h) (Nat.le_of_ble_eq_true rfl) ⟨⟨Or.inr trivial, Or.inr rfl, Or.inr trivial, Or.inr trivial, Or.inr trivial, Or.inr trivial, Or.inr trivial, Or.inr trivial, Or.inr trivial, Or.inr trivial, Or.inr trivial, Or.inr rfl, Or.inr trivial, Or.inr trivial, Or.inr trivial, Or.inr rfl, Or.inr trivial, Or.inr rfl, Or.inr trivial, Or.inr trivial, Or.inr trivial, Or.inr trivial, trivial⟩, rfl, rfl, rfl, Nat.le_of_ble_eq_true rfl⟩ rfl rfl dX1_small_14 (fun r_14 w_14 hp => ?_) (fun _ _ h => h.elim)
    obtain ⟨rfl, rfl⟩ := hp
    refine z_weq (w' := [zH, zO _ [zr _ _, zr _ _, zr _ _, zr _ _, zr _ _, zi _, zi _, zr _ _, zr _ _], zH, zH, zH, zH, zH, zH, zH, zH, zH, zO _ [zr _ _, zr _ _, zr _ _, zr _ _, zr _ _, zi _, zi _, zi _, zi _, zi _, zi _, zr _ _, zr _ _, zi _], zAi 0 15 _, zAi 0 15 _, zAi 2 32768 _, zO _ [zr _ _, zi _, zi _, zi _], zAi 0 24 _, zO _ [zi _, zi _, zr _ _], zAi 0 24 _, zAi 0 6 _, zAi 0 15 _, zH]) rfl ?_
    refine z_seq (S' := zi _ :: _) rfl ?_
    refine z_if_eqB F (tgt := 28) dX1_small_17 (by decide) (fun c_17 => ?_) (fun c_17 => ?_)
    · rw [inB_nn hd1 (by omega) (by omega)] at c_17; cases c_17
    · refine z_iload_n F dX1_small_20 rfl ?_
      refine z_if_ltN F (by omega) (tgt := 28) dX1_small_21 (by decide) (fun c_21 => ?_) (fun c_21 => ?_)
      · exact absurd c_21 (by omega)
      · refine z_iconstB F true dX1_small_24 rfl ?_
        refine z_goto F (tgt := 29) dX1_small_25 (by decide) ?_
        refine z_callS F (c_rgt true) 1 rfl (lw_S q538 q539 q109 q540) (by decide +kernel) ⟨Nat.le_of_ble_eq_true rfl, Nat.le_of_ble_eq_true rfl⟩ ⟨by omega, by omega⟩ [0] 22 ⟨rfl, rfl, rfl, ⟨Or.inl rfl, trivial⟩⟩ (fun h => nomatch h) (Nat.le_of_ble_eq_true rfl) ⟨⟨Or.inr trivial, Or.inr rfl, Or.inr trivial, Or.inr trivial, Or.inr trivial, Or.inr trivial, Or.inr trivial, Or.inr trivial, Or.inr trivial, Or.inr trivial, Or.inr trivial, Or.inr rfl, Or.inr trivial, Or.inr trivial, Or.inr trivial, Or.inr rfl, Or.inr trivial, Or.inr rfl, Or.inr trivial, Or.inr trivial, Or.inr trivial, Or.inr trivial, trivial⟩, rfl, rfl, rfl, Nat.le_of_ble_eq_true rfl⟩ rfl rfl dX1_small_29 (fun r_29 w_29 hp => ?_) (fun E_ w_ hx => by obtain ⟨-, hb, -⟩ := hx; cases hb)
        obtain ⟨rfl, -, rfl⟩ := hp
        refine z_weq (w' := [zH, zO _ [zr _ _, zr _ _, zr _ _, zr _ _, zr _ _, zi _, zi _, zr _ _, zr _ _], zH, zH, zH, zH, zH, zH, zH, zH, zH, zO _ [zr _ _, zr _ _, zr _ _, zr _ _, zr _ _, zi _, zi _, zi _, zi _, zi _, zi _, zr _ _, zr _ _, zi _], zAi 0 15 _, zAi 0 15 _, zAi 2 32768 _, zO _ [zr _ _, zi _, zi _, zi _], zAi 0 24 _, zO _ [zi _, zi _, zr _ _], zAi 0 24 _, zAi 0 6 _, zAi 0 15 _, zH]) rfl ?_
        refine z_seq (S' := []) rfl ?_
        refine z_aload_n F dX1_small_32 rfl ?_
        refine z_get F zC1 (f := 7) rfl (Nat.le_of_ble_eq_true rfl) q321 rfl dX1_small_33 ?_
        refine z_iload_n F dX1_small_36 rfl ?_
        refine z_iload_n F dX1_small_37 rfl ?_
        refine z_iload_n F dX1_small_38 rfl ?_
        refine z_callV F (c_smRun n d k told pr mn kd fw ls nn Fa Sa Is sn g sm D xn xd f Tu Im h1 hn hd hk hIs) 3 rfl (lw_V q1023 q1024 q1025 q115 q1026) (by decide +kernel) ⟨Nat.le_of_ble_eq_true rfl, Nat.le_of_ble_eq_true rfl⟩ ⟨by omega, by omega⟩ [0, 11, 12, 13, 14, 15, 16, 17, 18, 19, 20] 22 ⟨rfl, rfl, rfl, ⟨Or.inl rfl, Or.inr rfl, Or.inr rfl, Or.inr rfl, Or.inr rfl, Or.inr rfl, Or.inr rfl, Or.inr rfl, Or.inr rfl, Or.inr rfl, Or.inr rfl, trivial⟩⟩ (fun h => nomatch h) (Nat.le_of_ble_eq_true rfl) ⟨⟨Or.inr trivial, Or.inr rfl, Or.inr trivial, Or.inr trivial, Or.inr trivial, Or.inr trivial, Or.inr trivial, Or.inr trivial, Or.inr trivial, Or.inr trivial, Or.inr trivial, Or.inl rfl, Or.inl rfl, Or.inl rfl, Or.inl rfl, Or.inl rfl, Or.inl rfl, Or.inl rfl, Or.inl rfl, Or.inl rfl, Or.inl rfl, Or.inr trivial, trivial⟩, rfl, rfl, rfl, Nat.le_of_ble_eq_true rfl⟩ rfl zC4 rfl rfl dX1_small_39 (fun r_39 w_39 hp => ?_) (fun _ _ h => h.elim)
        obtain ⟨rfl, Fa2, Sa2, Is2, sn2, g2, sm2, D2, f2, Tu2, rfl, hI2⟩ := hp
        refine z_weq (w' := [zH, zO _ [zr _ _, zr _ _, zr _ _, zr _ _, zr _ _, zi _, zi _, zr _ _, zr _ _], zH, zH, zH, zH, zH, zH, zH, zH, zH, zO _ [zr _ _, zr _ _, zr _ _, zr _ _, zr _ _, zi _, zi _, zi _, zi _, zi _, zi _, zr _ _, zr _ _, zi _], zAi 0 15 _, zAi 0 15 _, zAi 2 32768 _, zO _ [zr _ _, zi _, zi _, zi _], zAi 0 24 _, zO _ [zi _, zi _, zr _ _], zAi 0 24 _, zAi 0 6 _, zAi 0 15 _, zH]) rfl ?_
        refine z_seq (S' := zi _ :: _) rfl ?_
        exact z_iret F E rfl dX1_small_42 (by omega) (by omega) (⟨rfl, Fa2, Sa2, Is2, sn2, g2, sm2, D2, f2, Tu2, rfl, hI2⟩)
theorem c_psmall_bad (n d k : Int32) (h : (inB n (nI 1) (nI 6) && (inB d (nI 1) (nI 8) && !decide (k < 0))) = false) : zCtr yX1_small cX1_small 4 (some .int) 14 1 6 [zr 1 0, zi n, zi d, zi k] [zH, zH] (fun r w => False) (fun E w => E = eIAE ∧ True ∧ w = [zH, zH]) := by
  refine z_start (by decide) [some (zr 1 0), some (zi n), some (zi d), some (zi k)] rfl (fun _ => Nat.le_of_ble_eq_true rfl) (fun _ => rfl) (fun X F E hno hin => ?_)
  refine z_iload_n F dX1_small_0 rfl ?_
  refine z_iconst F (nI 1) dX1_small_1 rfl ?_
  refine z_bipush F (nI 6) dX1_small_2 rfl ?_
  refine z_callS F (c_in n (nI 1) (nI 6)) 3 rfl (lw_S q349 q350 q109 q351) (by decide +kernel) ⟨Nat.le_of_ble_eq_true rfl, Nat.le_of_ble_eq_true rfl⟩ ⟨by omega, by omega⟩ [0] 2 ⟨rfl, rfl, rfl, ⟨Or.inl rfl, trivial⟩⟩ (fun h => nomatch h) (Nat.le_of_ble_eq_true rfl) ⟨⟨Or.inr trivial, Or.inr trivial, trivial⟩, rfl, rfl, rfl, Nat.le_of_ble_eq_true rfl⟩ rfl rfl dX1_small_4 (fun r_4 w_4 hp => ?_) (fun _ _ h => h.elim)
  obtain ⟨rfl, rfl⟩ := hp
  refine z_weq (w' := [zH, zH]) rfl ?_
  refine z_seq (S' := zi _ :: _) rfl ?_
  refine z_if_eqB F (tgt := 28) dX1_small_7 (by decide) (fun c_7 => ?_) (fun c_7 => ?_)
  · refine z_iconstB F false dX1_small_28 rfl ?_
    refine z_callS F (c_rgt false) 1 rfl (lw_S q538 q539 q109 q540) (by decide +kernel) ⟨Nat.le_of_ble_eq_true rfl, Nat.le_of_ble_eq_true rfl⟩ ⟨by omega, by omega⟩ [0] 2 ⟨rfl, rfl, rfl, ⟨Or.inl rfl, trivial⟩⟩ (fun h => nomatch h) (Nat.le_of_ble_eq_true rfl) ⟨⟨Or.inr trivial, Or.inr trivial, trivial⟩, rfl, rfl, rfl, Nat.le_of_ble_eq_true rfl⟩ rfl rfl dX1_small_29 (fun r_29 w_29 hp => ?_) (fun E_ w_ hx => by obtain ⟨rfl, -, rfl⟩ := hx; exact zx_out F E hno (by omega) (by omega) ⟨rfl, trivial, rfl⟩)
    exact nomatch hp.2.1
  · refine z_iload_n F dX1_small_10 rfl ?_
    refine z_iconst F (nI 1) dX1_small_11 rfl ?_
    refine z_bipush F (nI 8) dX1_small_12 rfl ?_
    refine z_callS F (c_in d (nI 1) (nI 8)) 3 rfl (lw_S q349 q350 q109 q351) (by decide +kernel) ⟨Nat.le_of_ble_eq_true rfl, Nat.le_of_ble_eq_true rfl⟩ ⟨by omega, by omega⟩ [0] 2 ⟨rfl, rfl, rfl, ⟨Or.inl rfl, trivial⟩⟩ (fun h => nomatch h) (Nat.le_of_ble_eq_true rfl) ⟨⟨Or.inr trivial, Or.inr trivial, trivial⟩, rfl, rfl, rfl, Nat.le_of_ble_eq_true rfl⟩ rfl rfl dX1_small_14 (fun r_14 w_14 hp => ?_) (fun _ _ h => h.elim)
    obtain ⟨rfl, rfl⟩ := hp
    refine z_weq (w' := [zH, zH]) rfl ?_
    refine z_seq (S' := zi _ :: _) rfl ?_
    refine z_if_eqB F (tgt := 28) dX1_small_17 (by decide) (fun c_17 => ?_) (fun c_17 => ?_)
    · refine z_iconstB F false dX1_small_28 rfl ?_
      refine z_callS F (c_rgt false) 1 rfl (lw_S q538 q539 q109 q540) (by decide +kernel) ⟨Nat.le_of_ble_eq_true rfl, Nat.le_of_ble_eq_true rfl⟩ ⟨by omega, by omega⟩ [0] 2 ⟨rfl, rfl, rfl, ⟨Or.inl rfl, trivial⟩⟩ (fun h => nomatch h) (Nat.le_of_ble_eq_true rfl) ⟨⟨Or.inr trivial, Or.inr trivial, trivial⟩, rfl, rfl, rfl, Nat.le_of_ble_eq_true rfl⟩ rfl rfl dX1_small_29 (fun r_29 w_29 hp => ?_) (fun E_ w_ hx => by obtain ⟨rfl, -, rfl⟩ := hx; exact zx_out F E hno (by omega) (by omega) ⟨rfl, trivial, rfl⟩)
      exact nomatch hp.2.1
    · refine z_iload_n F dX1_small_20 rfl ?_
      refine z_if_lt F (tgt := 28) dX1_small_21 (by decide) (fun c_21 => ?_) (fun c_21 => ?_)
      · refine z_iconstB F false dX1_small_28 rfl ?_
        refine z_callS F (c_rgt false) 1 rfl (lw_S q538 q539 q109 q540) (by decide +kernel) ⟨Nat.le_of_ble_eq_true rfl, Nat.le_of_ble_eq_true rfl⟩ ⟨by omega, by omega⟩ [0] 2 ⟨rfl, rfl, rfl, ⟨Or.inl rfl, trivial⟩⟩ (fun h => nomatch h) (Nat.le_of_ble_eq_true rfl) ⟨⟨Or.inr trivial, Or.inr trivial, trivial⟩, rfl, rfl, rfl, Nat.le_of_ble_eq_true rfl⟩ rfl rfl dX1_small_29 (fun r_29 w_29 hp => ?_) (fun E_ w_ hx => by obtain ⟨rfl, -, rfl⟩ := hx; exact zx_out F E hno (by omega) (by omega) ⟨rfl, trivial, rfl⟩)
        exact nomatch hp.2.1
      · rw [c_7, c_17, decide_eq_false c_21] at h; cases h
end C9l
