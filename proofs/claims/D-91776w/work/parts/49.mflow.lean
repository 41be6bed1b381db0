/-! the reference: ways -/
section C49
theorem zz27 {A : Nat → Nat → Int32} {q m : Nat} {x y : Int32} : (zup2 (zup2 A 27 q x) 28 m y) 27 = upd (A 27) q x ∧ (zup2 (zup2 A 27 q x) 28 m y) 28 = upd (A 28) m y ∧ (zup2 (zup2 A 27 q x) 28 m y) 26 = A 26 := by
  refine ⟨?_, ?_, ?_⟩
  · rw [zup2_ne (by decide)]; exact zup2_row
  · rw [zup2_row, zup2_ne (by decide)]; rfl
  · rw [zup2_ne (by decide), zup2_ne (by decide)]
theorem fl48 {A : Nat → Nat → Int32} {R : Nat → Nat → Nat} {V u v x : Nat} (hV : V ≤ 48) (hv : v < V) (h : ∀ p q, p < V → q < V → A 26 (48 * p + q) = nI (R p q)) : ∀ p q, p < V → q < V → zup2 A 26 (48 * u + v) (nI x) 26 (48 * p + q) = nI (zup2 R u v x p q) := fun p q hp hq => by
  rw [zup2_at, zup2_pq]
  by_cases e : p = u ∧ q = v
  · obtain ⟨rfl, rfl⟩ := e; rw [if_pos rfl, if_pos ⟨rfl, rfl⟩]
  · rw [if_neg (by omega), if_neg e]; exact h p q hp hq
theorem c_mfinds (F0 : Nat → Int32) (G : Nat → Int64) (A : Nat → Nat → Int32) (B : Nat → Nat → Int64) (V a b : Nat) (R : Nat → Nat → Nat) (hV : V ≤ 48) (ha : a < V) (hb : b < V) (hM : ∀ p q, p < V → q < V → A 26 (48 * p + q) = nI (R p q)) (hR : ∀ p q, R p q + R q p ≤ 60) :
    zCtr yX6_finds cX6_finds 7 (some .boolean) 0 0 0 [zr 1 0, zi (nI a), zi (nI b), zi (nI V)] [zH, zG F0 G A B] (fun r w => ∃ res : Bool, r = some (zi (bI res)) ∧ ∃ A', w = [zH, zG F0 G A' B] ∧ frm [26, 27, 28] A A' ∧ (res = true → ∃ R1, (∀ p q, R1 p q + R1 q p = R p q + R q p) ∧ (∀ S : Nat → Bool, S a = true → S b = false → cutr R1 V S + 1 = cutr R V S) ∧ ∀ p q, p < V → q < V → A' 26 (48 * p + q) = nI (R1 p q)) ∧ (res = false → ∃ S : Nat → Bool, S a = true ∧ S b = false ∧ cutr R V S = 0)) zNx := by
  refine z_start (by decide) [some (zr 1 0), some (zi (nI a)), some (zi (nI b)), some (zi (nI V)), none, none, none] rfl (fun _ => Nat.le_of_ble_eq_true rfl) (fun _ => rfl) (fun X F E hno hin => ?_)
  have path : ∀ (m j : Nat) (A1 : Nat → Nat → Int32) (R1 : Nat → Nat → Nat) (c : Nat → Nat) (many : Nat), j < m → j < many → (∀ k, k < many → c k < V) → (∀ i k, i < k → k < many → c i ≠ c k) → c 0 = a → frm [26, 27, 28] A A1 → awy R R1 V a b (A1 27) c j → (∀ p q, p < V → q < V → A1 26 (48 * p + q) = nI (R1 p q)) →
      Z X [some (zr 1 0), some (zi (nI a)), some (zi (nI b)), some (zi (nI V)), none, some (zi (nI (c j))), none] [] [zH, zG F0 G A1 B] 0 0 157 := by
    intro m
    induction m with
    | zero => intro j A1 R1 c many hm; omega
    | succ m ih =>
      intro j A1 R1 c many hm hj hlt hinj h0 hA hw hM1
      have hcj := hlt j hj
      refine z_iload F dX6_finds_157 rfl ?_
      refine z_iload_n F dX6_finds_159 rfl ?_
      refine z_icmp_eqN F (by omega) (by omega) (tgt := 219) dX6_finds_160 (by decide) (fun c_160 => ?_) (fun c_160 => ?_)
      · have hj0 : j = 0 := by
          rcases Nat.eq_zero_or_pos j with e | e
          · exact e
          · exact absurd (h0.trans c_160.symm) (hinj 0 j e hj)
        subst hj0
        refine z_iconstB F true dX6_finds_219 rfl ?_
        exact z_zret F E rfl rfl dX6_finds_220 (by omega) (by omega) (⟨true, rfl, A1, rfl, hA, fun _ => ⟨R1, hw.2.1, fun S sa sb => by
  have := hw.2.2 S sa sb
  rw [h0, sa, if_pos rfl] at this
  exact this, hM1⟩, (fun q => nomatch q)⟩)
      · have hj0 : 0 < j := by
          rcases Nat.eq_zero_or_pos j with e | e
          · subst e; exact absurd h0 c_160
          · exact e
        obtain ⟨i, hi, e1, e2, e3, hw2⟩ := hw.step hj0 (fun k hk => hlt k (by omega)) (fun x k hxk hk => hinj x k hxk (by omega))
        have hci := hlt i (by omega)
        have hs := hw.2.1 (c i) (c j)
        have hs2 := hR (c i) (c j)
        have hf1 := fl48 (u := c i) (v := c j) (x := R1 (c i) (c j) - 1) hV hcj hM1
        refine z_aload_n F dX6_finds_163 rfl ?_
        refine z_ma F rfl 26 rfl (Nat.le_of_ble_eq_true rfl) rfl q1506 dX6_finds_164 ?_
        refine z_bipush F (nI 48) dX6_finds_167 rfl ?_
        refine z_aload_n F dX6_finds_169 rfl ?_
        refine z_ma F rfl 27 rfl (Nat.le_of_ble_eq_true rfl) rfl q1507 dX6_finds_170 ?_
        refine z_iload F dX6_finds_173 rfl ?_
        refine z_ialdGN F rfl rfl (Nat.le_of_ble_eq_true rfl) (by omega) rfl dX6_finds_175 ?_
        refine z_ieq (e1) ?_
        refine z_imulN F dX6_finds_176 ?_
        refine z_iload F dX6_finds_177 rfl ?_
        refine z_iaddN F dX6_finds_179 ?_
        refine z_dup2 F dX6_finds_180 rfl rfl ?_
        refine z_ialdGN F rfl rfl (Nat.le_of_ble_eq_true rfl) (by omega) rfl dX6_finds_181 ?_
        refine z_ieq (hM1 (c i) (c j) hci hcj) ?_
        refine z_iconst F (nI 1) dX6_finds_182 rfl ?_
        refine z_isubN F (by omega) dX6_finds_183 ?_
        refine z_iastGN F rfl rfl (Nat.le_of_ble_eq_true rfl) (by omega) dX6_finds_184 ?_
        refine z_weq (w' := [_, _]) rfl ?_
        refine z_aload_n F dX6_finds_185 rfl ?_
        refine z_ma F rfl 26 rfl (Nat.le_of_ble_eq_true rfl) rfl q1506 dX6_finds_186 ?_
        refine z_bipush F (nI 48) dX6_finds_189 rfl ?_
        refine z_iload F dX6_finds_191 rfl ?_
        refine z_imulN F dX6_finds_193 ?_
        refine z_aload_n F dX6_finds_194 rfl ?_
        refine z_ma F rfl 27 rfl (Nat.le_of_ble_eq_true rfl) rfl q1507 dX6_finds_195 ?_
        refine z_iload F dX6_finds_198 rfl ?_
        refine z_ialdGN F rfl rfl (Nat.le_of_ble_eq_true rfl) (by omega) rfl dX6_finds_200 ?_
        refine z_ieq ((congrFun (zup2_ne (by decide)) _).trans e1) ?_
        refine z_iaddN F dX6_finds_201 ?_
        refine z_dup2 F dX6_finds_202 rfl rfl ?_
        refine z_ialdGN F rfl rfl (Nat.le_of_ble_eq_true rfl) (by omega) rfl dX6_finds_203 ?_
        refine z_ieq (hf1 (c j) (c i) hcj hci) ?_
        refine z_iconst F (nI 1) dX6_finds_204 rfl ?_
        refine z_iaddN F dX6_finds_205 ?_
        refine z_iastGN F rfl rfl (Nat.le_of_ble_eq_true rfl) (by omega) dX6_finds_206 ?_
        refine z_weq (w' := [_, _]) rfl ?_
        refine z_aload_n F dX6_finds_207 rfl ?_
        refine z_ma F rfl 27 rfl (Nat.le_of_ble_eq_true rfl) rfl q1507 dX6_finds_208 ?_
        refine z_iload F dX6_finds_211 rfl ?_
        refine z_ialdGN F rfl rfl (Nat.le_of_ble_eq_true rfl) (by omega) rfl dX6_finds_213 ?_
        refine z_ieq ((congrFun ((zup2_ne (by decide)).trans (zup2_ne (by decide))) _).trans e1) ?_
        refine z_istore F dX6_finds_214 (Nat.le_of_ble_eq_true rfl) ?_
        refine z_leq (L' := [_, _, _, _, _, _, _]) rfl ?_
        refine z_goto F (tgt := 157) dX6_finds_216 (by decide) ?_
        have e27 : (zup2 (zup2 A1 26 (48 * c i + c j) (nI (R1 (c i) (c j) - 1))) 26 (48 * c j + c i) (nI (zup2 R1 (c i) (c j) (R1 (c i) (c j) - 1) (c j) (c i) + 1))) 27 = A1 27 := (zup2_ne (by decide)).trans (zup2_ne (by decide))
        exact ih i _ (mvR R1 (c i) (c j)) c many (by omega) (by omega) hlt hinj h0 (frm_zup (frm_zup hA (by decide)) (by decide)) (by rw [e27]; exact hw2) (fl48 hV hci hf1)
  have J : ∀ (many : Nat) (A1 : Nat → Nat → Int32) (c : Nat → Nat), frm [27, 28] A A1 → fnv R V a many (A1 27) (A1 28) c → (A1 27 b = -1 → fdn R V many c many) → Z X [some (zr 1 0), some (zi (nI a)), some (zi (nI b)), some (zi (nI V)), none, none, none] [] [zH, zG F0 G A1 B] 0 0 142 := by
    intro many A1 c hA hf hd
    refine z_aload_n F dX6_finds_142 rfl ?_
    refine z_ma F rfl 27 rfl (Nat.le_of_ble_eq_true rfl) rfl q1507 dX6_finds_143 ?_
    refine z_iload_n F dX6_finds_146 rfl ?_
    refine z_ialdGN F rfl rfl (Nat.le_of_ble_eq_true rfl) (by omega) rfl dX6_finds_147 ?_
    refine z_iconst F (-1) dX6_finds_148 rfl ?_
    refine z_icmp_ne F (tgt := 154) dX6_finds_149 (by decide) (fun c_149 => ?_) (fun c_149 => ?_)
    · obtain ⟨j, h1, h2⟩ := (hf.vis hV hb).mp c_149
      refine z_iload_n F dX6_finds_154 rfl ?_
      refine z_istore F dX6_finds_155 (Nat.le_of_ble_eq_true rfl) ?_
      refine z_leq (L' := [_, _, _, _, _, _, _]) rfl ?_
      refine z_leq (L' := [some (zr 1 0), some (zi (nI a)), some (zi (nI b)), some (zi (nI V)), none, some (zi (nI (c j))), none]) (by rw [h2]) ?_
      exact path _ j A1 R c many (Nat.lt_succ_self _) h1 (fun k hk => (hf.1 k hk).2) hf.2.2.2.1 hf.2.1 (hA.to (by decide)) (by have := hf.way h1; rw [h2] at this; exact this) (fun p q hp hq => (congrFun (hA.at 26 rfl) _).trans (hM p q hp hq))
    · refine z_iconstB F false dX6_finds_152 rfl ?_
      exact z_zret F E rfl rfl dX6_finds_153 (by omega) (by omega) (⟨false, rfl, A1, rfl, hA.to (by decide), (fun q => nomatch q), fun _ => hf.dead hV (hd c_149) hb c_149⟩)
  have inner : ∀ (i : Nat), ∀ (m q many : Nat) (A1 : Nat → Nat → Int32) (c : Nat → Nat), V - q < m → q ≤ V → i < many → frm [27, 28] A A1 → fnv R V a many (A1 27) (A1 28) c → fdn R V many c i → (∀ q', q' < q → R (c i) q' ≠ 0 → ∃ j, j < many ∧ c j = q') →
      (∀ many A1 c, frm [27, 28] A A1 → fnv R V a many (A1 27) (A1 28) c → i < many → fdn R V many c (i + 1) → Z X [some (zr 1 0), some (zi (nI a)), some (zi (nI b)), some (zi (nI V)), some (zi (nI many)), some (zi (nI (i + 1))), none] [] [zH, zG F0 G A1 B] 0 0 43) →
      Z X [some (zr 1 0), some (zi (nI a)), some (zi (nI b)), some (zi (nI V)), some (zi (nI many)), some (zi (nI i)), some (zi (nI q))] [] [zH, zG F0 G A1 B] 0 0 63 := by
    intro i m
    induction m with
    | zero => intro q many A1 c hm; omega
    | succ m ih =>
      intro q many A1 c hm hq hi hA hf hd hh kk
      have hmV := hf.le
      have hci := (hf.1 i hi).2
      have hRb := hR (c i) q
      have hln := (hf.1 i hi).1
      refine z_iload F dX6_finds_63 rfl ?_
      refine z_iload_n F dX6_finds_65 rfl ?_
      refine z_icmp_geN F (by omega) (by omega) (tgt := 136) dX6_finds_66 (by decide) (fun c_66 => ?_) (fun c_66 => ?_)
      · have eq0 : q = V := by omega
        subst eq0
        refine z_iincN F 1 dX6_finds_136 rfl rfl ?_
        refine z_leq (L' := [_, _, _, _, _, _, _]) rfl ?_
        refine z_goto F (tgt := 43) dX6_finds_139 (by decide) ?_
        refine z_loc _ ?_ (kk many A1 c hA hf hi (fun k hk q' hq' h2 => by
          by_cases e : k = i
          · subst e; exact hh q' hq' h2
          · exact hd k (by omega) q' hq' h2))
        exact ⟨rfl, rfl, rfl, rfl, rfl, rfl, trivial⟩
      · refine z_aload_n F dX6_finds_69 rfl ?_
        refine z_ma F rfl 27 rfl (Nat.le_of_ble_eq_true rfl) rfl q1507 dX6_finds_70 ?_
        refine z_iload F dX6_finds_73 rfl ?_
        refine z_ialdGN F rfl rfl (Nat.le_of_ble_eq_true rfl) (by omega) rfl dX6_finds_75 ?_
        refine z_iconst F (-1) dX6_finds_76 rfl ?_
        refine z_icmp_ne F (tgt := 130) dX6_finds_77 (by decide) (fun c_77 => ?_) (fun c_77 => ?_)
        · refine z_iincN F 1 dX6_finds_130 rfl rfl ?_
          refine z_leq (L' := [_, _, _, _, _, _, _]) rfl ?_
          refine z_goto F (tgt := 63) dX6_finds_133 (by decide) ?_
          exact ih (q + 1) many A1 c (by omega) (by omega) hi hA hf hd (fun q' h1 h2 => by
            by_cases e : q' = q
            · subst e; exact (hf.vis hV (by omega)).mp c_77
            · exact hh q' (by omega) h2) kk
        · have hno : ∀ j, j < many → c j ≠ q := fun j hj e => (hf.vis hV (by omega)).mpr ⟨j, hj, e⟩ c_77
          have hlt := hf.lt (by omega) hno
          refine z_aload_n F dX6_finds_80 rfl ?_
          refine z_ma F rfl 26 rfl (Nat.le_of_ble_eq_true rfl) rfl q1506 dX6_finds_81 ?_
          refine z_bipush F (nI 48) dX6_finds_84 rfl ?_
          refine z_aload_n F dX6_finds_86 rfl ?_
          refine z_ma F rfl 28 rfl (Nat.le_of_ble_eq_true rfl) rfl q1508 dX6_finds_87 ?_
          refine z_iload F dX6_finds_90 rfl ?_
          refine z_ialdGN F rfl rfl (Nat.le_of_ble_eq_true rfl) (by omega) rfl dX6_finds_92 ?_
          refine z_ieq (hln) ?_
          refine z_imulN F dX6_finds_93 ?_
          refine z_iload F dX6_finds_94 rfl ?_
          refine z_iaddN F dX6_finds_96 ?_
          refine z_ialdGN F rfl rfl (Nat.le_of_ble_eq_true rfl) (by omega) rfl dX6_finds_97 ?_
          refine z_ieq ((congrFun (hA.at 26 rfl) _).trans (hM (c i) q (by omega) (by omega))) ?_
          refine z_if_neN F (by omega) (tgt := 104) dX6_finds_98 (by decide) (fun c_98 => ?_) (fun c_98 => ?_)
          · refine z_aload_n F dX6_finds_104 rfl ?_
            refine z_ma F rfl 27 rfl (Nat.le_of_ble_eq_true rfl) rfl q1507 dX6_finds_105 ?_
            refine z_iload F dX6_finds_108 rfl ?_
            refine z_aload_n F dX6_finds_110 rfl ?_
            refine z_ma F rfl 28 rfl (Nat.le_of_ble_eq_true rfl) rfl q1508 dX6_finds_111 ?_
            refine z_iload F dX6_finds_114 rfl ?_
            refine z_ialdGN F rfl rfl (Nat.le_of_ble_eq_true rfl) (by omega) rfl dX6_finds_116 ?_
            refine z_ieq (hln) ?_
            refine z_iastGN F rfl rfl (Nat.le_of_ble_eq_true rfl) (by omega) dX6_finds_117 ?_
            refine z_weq (w' := [_, _]) rfl ?_
            refine z_aload_n F dX6_finds_118 rfl ?_
            refine z_ma F rfl 28 rfl (Nat.le_of_ble_eq_true rfl) rfl q1508 dX6_finds_119 ?_
            refine z_iload F dX6_finds_122 rfl ?_
            refine z_iload F dX6_finds_124 rfl ?_
            refine z_iastGN F rfl rfl (Nat.le_of_ble_eq_true rfl) (by omega) dX6_finds_126 ?_
            refine z_weq (w' := [_, _]) rfl ?_
            refine z_iincN F 1 dX6_finds_127 rfl rfl ?_
            refine z_leq (L' := [_, _, _, _, _, _, _]) rfl ?_
            refine z_iincN F 1 dX6_finds_130 rfl rfl ?_
            refine z_leq (L' := [_, _, _, _, _, _, _]) rfl ?_
            refine z_goto F (tgt := 63) dX6_finds_133 (by decide) ?_
            have e1 : ∀ k, k < many → (if k = many then q else c k) = c k := fun k hk => if_neg (by omega)
            have e2 : (if many = many then q else c many) = q := if_pos rfl
            refine ih (q + 1) (many + 1) _ (fun k => if k = many then q else c k) (by omega) (by omega) (by omega) (frm_zup (frm_zup hA (by decide)) (by decide)) (by rw [zz27.1, zz27.2.1]; exact hf.add hi (by omega) hno c_98) (fun k hk q' hq' h2 => ?_) (fun q' h1 h2 => ?_) kk
            · have h3 : R (if k = many then q else c k) q' ≠ 0 := h2
              rw [e1 k (by omega)] at h3
              obtain ⟨j, hj, e⟩ := hd k hk q' hq' h3
              exact ⟨j, by omega, (e1 j hj).trans e⟩
            · have h2 : R (if i = many then q else c i) q' ≠ 0 := h2
              rw [e1 i hi] at h2
              by_cases e : q' = q
              · exact ⟨many, by omega, e2.trans e.symm⟩
              · obtain ⟨j, hj, e⟩ := hh q' (by omega) h2
                exact ⟨j, by omega, (e1 j hj).trans e⟩
          · refine z_goto F (tgt := 130) dX6_finds_101 (by decide) ?_
            refine z_iincN F 1 dX6_finds_130 rfl rfl ?_
            refine z_leq (L' := [_, _, _, _, _, _, _]) rfl ?_
            refine z_goto F (tgt := 63) dX6_finds_133 (by decide) ?_
            exact ih (q + 1) many A1 c (by omega) (by omega) hi hA hf hd (fun q' h1 h2 => by
              by_cases e : q' = q
              · subst e; exact absurd c_98 h2
              · exact hh q' (by omega) h2) kk
  have outer : ∀ (m i many : Nat) (A1 : Nat → Nat → Int32) (c : Nat → Nat), 60 - i < m → i ≤ many → frm [27, 28] A A1 → fnv R V a many (A1 27) (A1 28) c → fdn R V many c i → Z X [some (zr 1 0), some (zi (nI a)), some (zi (nI b)), some (zi (nI V)), some (zi (nI many)), some (zi (nI i)), none] [] [zH, zG F0 G A1 B] 0 0 43 := by
    intro m
    induction m with
    | zero => intro i many A1 c hm; omega
    | succ m ih =>
      intro i many A1 c hm hi hA hf hd
      have hmV := hf.le
      refine z_iload F dX6_finds_43 rfl ?_
      refine z_iload F dX6_finds_45 rfl ?_
      refine z_icmp_geN F (by omega) (by omega) (tgt := 142) dX6_finds_47 (by decide) (fun c_47 => ?_) (fun c_47 => ?_)
      · have ei : i = many := by omega
        subst ei
        refine z_loc _ ?_ (J i A1 c hA hf (fun _ => hd))
        exact ⟨rfl, rfl, rfl, rfl, trivial⟩
      · refine z_aload_n F dX6_finds_50 rfl ?_
        refine z_ma F rfl 27 rfl (Nat.le_of_ble_eq_true rfl) rfl q1507 dX6_finds_51 ?_
        refine z_iload_n F dX6_finds_54 rfl ?_
        refine z_ialdGN F rfl rfl (Nat.le_of_ble_eq_true rfl) (by omega) rfl dX6_finds_55 ?_
        refine z_iconst F (-1) dX6_finds_56 rfl ?_
        refine z_icmp_ne F (tgt := 142) dX6_finds_57 (by decide) (fun c_57 => ?_) (fun c_57 => ?_)
        · refine z_loc _ ?_ (J many A1 c hA hf (fun e => absurd e c_57))
          exact ⟨rfl, rfl, rfl, rfl, trivial⟩
        · refine z_iconst F (nI 0) dX6_finds_60 rfl ?_
          refine z_istore F dX6_finds_61 (Nat.le_of_ble_eq_true rfl) ?_
          refine z_leq (L' := [_, _, _, _, _, _, _]) rfl ?_
          exact inner i _ 0 many A1 c (Nat.lt_succ_self _) (by omega) (by omega) hA hf hd (fun q' h => by omega) (fun many A1 c h0 h1 h2 h3 => ih (i + 1) many A1 c (by omega) (by omega) h0 h1 h3)
  have first : ∀ (m p : Nat) (A1 : Nat → Nat → Int32), V - p < m → p ≤ V → frm [27, 28] A A1 → (∀ q, q < p → A1 27 q = -1) → Z X [some (zr 1 0), some (zi (nI a)), some (zi (nI b)), some (zi (nI V)), some (zi (nI p)), none, none] [] [zH, zG F0 G A1 B] 0 0 3 := by
    intro m
    induction m with
    | zero => intro p A1 hm; omega
    | succ m ih =>
      intro p A1 hm hp hA hfr
      refine z_iload F dX6_finds_3 rfl ?_
      refine z_iload_n F dX6_finds_5 rfl ?_
      refine z_icmp_geN F (by omega) (by omega) (tgt := 23) dX6_finds_6 (by decide) (fun c_6 => ?_) (fun c_6 => ?_)
      · have ep : p = V := by omega
        subst ep
        refine z_aload_n F dX6_finds_23 rfl ?_
        refine z_ma F rfl 27 rfl (Nat.le_of_ble_eq_true rfl) rfl q1507 dX6_finds_24 ?_
        refine z_iload_n F dX6_finds_27 rfl ?_
        refine z_iload_n F dX6_finds_28 rfl ?_
        refine z_iastGN F rfl rfl (Nat.le_of_ble_eq_true rfl) (by omega) dX6_finds_29 ?_
        refine z_weq (w' := [_, _]) rfl ?_
        refine z_aload_n F dX6_finds_30 rfl ?_
        refine z_ma F rfl 28 rfl (Nat.le_of_ble_eq_true rfl) rfl q1508 dX6_finds_31 ?_
        refine z_iconst F (nI 0) dX6_finds_34 rfl ?_
        refine z_iload_n F dX6_finds_35 rfl ?_
        refine z_iastGN F rfl rfl (Nat.le_of_ble_eq_true rfl) (by omega) dX6_finds_36 ?_
        refine z_weq (w' := [_, _]) rfl ?_
        refine z_iconst F (nI 1) dX6_finds_37 rfl ?_
        refine z_istore F dX6_finds_38 (Nat.le_of_ble_eq_true rfl) ?_
        refine z_leq (L' := [_, _, _, _, _, _, _]) rfl ?_
        refine z_iconst F (nI 0) dX6_finds_40 rfl ?_
        refine z_istore F dX6_finds_41 (Nat.le_of_ble_eq_true rfl) ?_
        refine z_leq (L' := [_, _, _, _, _, _, _]) rfl ?_
        refine outer _ 0 1 _ (fun _ => a) (Nat.lt_succ_self _) (by omega) (frm_zup (frm_zup hA (by decide)) (by decide)) (by
          rw [zz27.1, zz27.2.1]
          refine ⟨fun j hj => ?_, rfl, by omega, fun i j hij hj => by omega, by rw [upd_at, if_pos rfl], fun j h0 hj => by omega, fun q hq hh => ?_⟩
          · obtain rfl : j = 0 := by omega
            exact ⟨by rw [upd_at, if_pos rfl], ha⟩
          · rw [upd_at, if_neg (fun z => hh 0 (by omega) z.symm)]; exact hfr q (by omega)) (fun k hk => by omega)
      · refine z_aload_n F dX6_finds_9 rfl ?_
        refine z_ma F rfl 27 rfl (Nat.le_of_ble_eq_true rfl) rfl q1507 dX6_finds_10 ?_
        refine z_iload F dX6_finds_13 rfl ?_
        refine z_iconst F (-1) dX6_finds_15 rfl ?_
        refine z_iastGN F rfl rfl (Nat.le_of_ble_eq_true rfl) (by omega) dX6_finds_16 ?_
        refine z_weq (w' := [_, _]) rfl ?_
        refine z_iincN F 1 dX6_finds_17 rfl rfl ?_
        refine z_leq (L' := [_, _, _, _, _, _, _]) rfl ?_
        refine z_goto F (tgt := 3) dX6_finds_20 (by decide) ?_
        refine ih (p + 1) _ (by omega) (by omega) (frm_zup hA (by decide)) (fun q hq => ?_)
        rw [zup2_at]
        by_cases e : q = p
        · rw [if_pos e]
        · rw [if_neg e]; exact hfr q (by omega)
  refine z_iconst F (nI 0) dX6_finds_0 rfl ?_
  refine z_istore F dX6_finds_1 (Nat.le_of_ble_eq_true rfl) ?_
  refine z_leq (L' := [_, _, _, _, _, _, _]) rfl ?_
  exact first _ 0 _ (Nat.lt_succ_self _) (by omega) frm.rf (fun q h => by omega)
/-- rooms at their start, row by row -/
def rl1 (n : Nat) (f : Nat → Int32) (x y : Nat) (A : Nat → Nat → Int32) : Prop := ∀ p q, p < 48 → q < 48 → A 26 (48 * p + q) = nI (if p < n ∧ q < n ∧ (p < x ∨ p = x ∧ q < y) then R0l f p q else 0)
theorem rl1_step {n : Nat} {f : Nat → Int32} {x y : Nat} {A : Nat → Nat → Int32} (hx : x < n) (hy : y < n) (hn : n ≤ 24) (h : rl1 n f x y A) : (bt (f x) y = true → rl1 n f x (y + 1) (zup2 A 26 (48 * x + y) (nI 1))) ∧ (bt (f x) y = false → rl1 n f x (y + 1) A) := by
  have key : ∀ p q, p < 48 → q < 48 → ¬ (p = x ∧ q = y) → A 26 (48 * p + q) = nI (if p < n ∧ q < n ∧ (p < x ∨ p = x ∧ q < y + 1) then R0l f p q else 0) := fun p q hp hq hne => by
    rw [h p q hp hq]
    by_cases h1 : p < n ∧ q < n ∧ (p < x ∨ p = x ∧ q < y)
    · rw [if_pos h1, if_pos (by omega)]
    · rw [if_neg h1, if_neg (by omega)]
  constructor
  · intro hb p q hp hq
    rw [zup2_at]
    by_cases e : p = x ∧ q = y
    · obtain ⟨rfl, rfl⟩ := e
      rw [if_pos rfl, if_pos (by omega), R0l, if_pos hb]
    · rw [if_neg (by omega)]; exact key p q hp hq e
  · intro hb p q hp hq
    by_cases e : p = x ∧ q = y
    · obtain ⟨rfl, rfl⟩ := e
      rw [h p q hp hq, if_neg (by omega), if_pos (by omega), R0l, if_neg (by rw [hb]; simp)]
    · exact key p q hp hq e
theorem rl1_row {n : Nat} {f : Nat → Int32} {x : Nat} {A : Nat → Nat → Int32} (h : rl1 n f x n A) : rl1 n f (x + 1) 0 A := fun p q hp hq => by
  rw [h p q hp hq]
  by_cases h1 : p < n ∧ q < n ∧ (p < x ∨ p = x ∧ q < n)
  · rw [if_pos h1, if_pos (by omega)]
  · rw [if_neg h1, if_neg (by omega)]
theorem R0l_le (f : Nat → Int32) (p q : Nat) : R0l f p q ≤ 1 := by unfold R0l; split <;> omega
theorem R0k_le (n : Nat) (f : Nat → Int32) (p q : Nat) : R0k n f p q ≤ 1 := by
  unfold R0k
  split
  · split <;> omega
  · split <;> omega
theorem flw_one {R0 R R1 : Nat → Nat → Nat} {V a b w : Nat} (h : flw R0 R V a b w) (h1 : ∀ p q, R1 p q + R1 q p = R p q + R q p) (h2 : ∀ S : Nat → Bool, S a = true → S b = false → cutr R1 V S + 1 = cutr R V S) : flw R0 R1 V a b (w + 1) :=
  ⟨fun p q => (h1 p q).trans (h.1 p q), fun S sa sb => by
    have a1 := h.2 S sa sb
    have a2 := h2 S sa sb
    omega⟩
theorem cutr_le {R : Nat → Nat → Nat} {V c : Nat} (h : ∀ p q, R p q ≤ c) (S : Nat → Bool) : cutr R V S ≤ V * (V * c) := fb_sm_bound fun p _ => fb_sm_bound fun q _ => by
  show (if _ then _ else _) ≤ c
  split
  · exact h p q
  · omega
theorem c_mways (F0 : Nat → Int32) (G : Nat → Int64) (A : Nat → Nat → Int32) (B : Nat → Nat → Int64) (n a b : Nat) (f : Nat → Int32) (hn : n ≤ 24) (ha : a < n) (hb : b < n) (hab : a ≠ b) (h4 : F0 4 = nI n) (hf : ∀ k, k < n → A 6 k = f k) :
    zCtr yX6_waysByLines cX6_waysByLines 5 (some .int) 1 0 0 [zr 1 0, zi (nI a), zi (nI b)] [zH, zG F0 G A B] (fun r w => r = some (zi (nI (mfl n f 24 a b))) ∧ ∃ A', w = [zH, zG F0 G A' B] ∧ frm [26, 27, 28] A A') zNx := by
  refine z_start (by decide) [some (zr 1 0), some (zi (nI a)), some (zi (nI b)), none, none] rfl (fun _ => Nat.le_of_ble_eq_true rfl) (fun _ => rfl) (fun X F E hno hin => ?_)
  have loop : ∀ (m w0 : Nat) (A1 : Nat → Nat → Int32) (R : Nat → Nat → Nat), 3000 - w0 < m → frm [26, 27, 28] A A1 → flw (R0l f) R n a b w0 → (∀ p q, p < n → q < n → A1 26 (48 * p + q) = nI (R p q)) → Z X [some (zr 1 0), some (zi (nI a)), some (zi (nI b)), some (zi (nI w0)), none] [] [zH, zG F0 G A1 B] 0 0 81 := by
    intro m
    induction m with
    | zero => intro w0 A1 R hm; omega
    | succ m ih =>
      intro w0 A1 R hm hA hfl hM
      have hle := hfl.le hab
      have hle2 := cutr_le (V := n) (R0l_le f) (fun q => decide (q = a))
      have hle3 : n * (n * 1) ≤ 24 * 24 := by rw [Nat.mul_one]; exact Nat.mul_le_mul hn hn
      have hR : ∀ p q, R p q + R q p ≤ 60 := fun p q => by have := hfl.1 p q; have := R0l_le f p q; have := R0l_le f q p; omega
      refine z_aload_n F dX6_waysByLines_81 rfl ?_
      refine z_iload_n F dX6_waysByLines_82 rfl ?_
      refine z_iload_n F dX6_waysByLines_83 rfl ?_
      refine z_aload_n F dX6_waysByLines_84 rfl ?_
      refine z_mi F rfl 4 rfl (Nat.le_of_ble_eq_true rfl) rfl q1484 dX6_waysByLines_85 ?_
      refine z_ieq (h4) ?_
      refine z_callV F (c_mfinds _ _ _ _ n a b R (by omega) ha hb hM hR) 3 rfl (lw_V q1904 q1906 qs68 q117 q1907) (by decide +kernel) ⟨Nat.le_of_ble_eq_true rfl, Nat.le_of_ble_eq_true rfl⟩ ⟨by omega, by omega⟩ [0, 1] 2 ⟨rfl, rfl, rfl, ⟨Or.inl rfl, Or.inr rfl, trivial⟩⟩ (fun h => nomatch h) (Nat.le_of_ble_eq_true rfl) ⟨⟨Or.inr trivial, Or.inl rfl, trivial⟩, rfl, rfl, rfl, Nat.le_of_ble_eq_true rfl⟩ rfl zC6 (zat_G0 rfl) rfl dX6_waysByLines_88 (fun r_88 w_88 hp => ?_) (fun _ _ h => h.elim)
      obtain ⟨res, rfl, A2, rfl, a1, hyes, hno⟩ := hp
      refine z_weq (w' := [zH, zG _ _ _ _]) rfl ?_
      refine z_seq (S' := zi _ :: _) rfl ?_
      refine z_if_eqB F (tgt := 100) dX6_waysByLines_91 (by decide) (fun c_91 => ?_) (fun c_91 => ?_)
      · refine z_iload_n F dX6_waysByLines_100 rfl ?_
        exact z_iret F E rfl dX6_waysByLines_101 (by omega) (by omega) (⟨by rw [mfl_of (isMin_l hn hab ha (hfl.done (hno c_91)))], A2, rfl, hA.tr a1 (by decide) (by decide)⟩)
      · obtain ⟨R1, h1, h2, h3⟩ := hyes c_91
        refine z_iincN F 1 dX6_waysByLines_94 rfl rfl ?_
        refine z_leq (L' := [_, _, _, _, _]) rfl ?_
        refine z_goto F (tgt := 81) dX6_waysByLines_97 (by decide) ?_
        exact ih (w0 + 1) A2 R1 (by omega) (hA.tr a1 (by decide) (by decide)) (flw_one hfl h1 h2) h3
  have inner : ∀ (x : Nat), x < n → ∀ (m y : Nat) (A1 : Nat → Nat → Int32), n - y < m → y ≤ n → frm [26, 27, 28] A A1 → rl1 n f x y A1 → (∀ A2, frm [26, 27, 28] A A2 → rl1 n f (x + 1) 0 A2 → Z X [some (zr 1 0), some (zi (nI a)), some (zi (nI b)), some (zi (nI (x + 1))), none] [] [zH, zG F0 G A2 B] 0 0 24) → Z X [some (zr 1 0), some (zi (nI a)), some (zi (nI b)), some (zi (nI x)), some (zi (nI y))] [] [zH, zG F0 G A1 B] 0 0 35 := by
    intro x hx m
    induction m with
    | zero => intro y A1 hm; omega
    | succ m ih =>
      intro y A1 hm hy hA hr kk
      refine z_iload F dX6_waysByLines_35 rfl ?_
      refine z_aload_n F dX6_waysByLines_37 rfl ?_
      refine z_mi F rfl 4 rfl (Nat.le_of_ble_eq_true rfl) rfl q1484 dX6_waysByLines_38 ?_
      refine z_ieq (h4) ?_
      refine z_icmp_geN F (by omega) (by omega) (tgt := 73) dX6_waysByLines_41 (by decide) (fun c_41 => ?_) (fun c_41 => ?_)
      · have ey : y = n := by omega
        subst ey
        refine z_iincN F 1 dX6_waysByLines_73 rfl rfl ?_
        refine z_leq (L' := [_, _, _, _, _]) rfl ?_
        refine z_goto F (tgt := 24) dX6_waysByLines_76 (by decide) ?_
        refine z_loc _ ?_ (kk A1 hA (rl1_row hr))
        exact ⟨rfl, rfl, rfl, rfl, trivial⟩
      · refine z_aload_n F dX6_waysByLines_44 rfl ?_
        refine z_iload_n F dX6_waysByLines_45 rfl ?_
        refine z_iload F dX6_waysByLines_46 rfl ?_
        refine z_callV F (c_isJoined _ _ _ _ x y (by omega) (by omega)) 2 rfl (lw_V q1748 q1750 qs46 q117 q1751) (by decide +kernel) ⟨Nat.le_of_ble_eq_true rfl, Nat.le_of_ble_eq_true rfl⟩ ⟨by omega, by omega⟩ [0, 1] 2 ⟨rfl, rfl, rfl, ⟨Or.inl rfl, Or.inr rfl, trivial⟩⟩ (fun h => nomatch h) (Nat.le_of_ble_eq_true rfl) ⟨⟨Or.inr trivial, Or.inl rfl, trivial⟩, rfl, rfl, rfl, Nat.le_of_ble_eq_true rfl⟩ rfl zC6 (zat_G0 rfl) rfl dX6_waysByLines_48 (fun r_48 w_48 hp => ?_) (fun _ _ h => h.elim)
        obtain ⟨rfl, rfl⟩ := hp
        rw [hA.at 6 rfl, hf x hx]
        refine z_weq (w' := [zH, zG _ _ _ _]) rfl ?_
        refine z_seq (S' := zi _ :: _) rfl ?_
        refine z_if_eqB F (tgt := 67) dX6_waysByLines_51 (by decide) (fun c_51 => ?_) (fun c_51 => ?_)
        · refine z_iincN F 1 dX6_waysByLines_67 rfl rfl ?_
          refine z_leq (L' := [_, _, _, _, _]) rfl ?_
          refine z_goto F (tgt := 35) dX6_waysByLines_70 (by decide) ?_
          exact ih (y + 1) _ (by omega) (by omega) hA ((rl1_step hx (by omega) hn hr).2 c_51) kk
        · refine z_aload_n F dX6_waysByLines_54 rfl ?_
          refine z_ma F rfl 26 rfl (Nat.le_of_ble_eq_true rfl) rfl q1506 dX6_waysByLines_55 ?_
          refine z_bipush F (nI 48) dX6_waysByLines_58 rfl ?_
          refine z_iload_n F dX6_waysByLines_60 rfl ?_
          refine z_imulN F dX6_waysByLines_61 ?_
          refine z_iload F dX6_waysByLines_62 rfl ?_
          refine z_iaddN F dX6_waysByLines_64 ?_
          refine z_iconst F (nI 1) dX6_waysByLines_65 rfl ?_
          refine z_iastGN F rfl rfl (Nat.le_of_ble_eq_true rfl) (by omega) dX6_waysByLines_66 ?_
          refine z_weq (w' := [_, _]) rfl ?_
          refine z_iincN F 1 dX6_waysByLines_67 rfl rfl ?_
          refine z_leq (L' := [_, _, _, _, _]) rfl ?_
          refine z_goto F (tgt := 35) dX6_waysByLines_70 (by decide) ?_
          exact ih (y + 1) _ (by omega) (by omega) (frm_zup hA (by decide)) ((rl1_step hx (by omega) hn hr).1 c_51) kk
  have outer : ∀ (m x : Nat) (A1 : Nat → Nat → Int32), n - x < m → x ≤ n → frm [26, 27, 28] A A1 → rl1 n f x 0 A1 → Z X [some (zr 1 0), some (zi (nI a)), some (zi (nI b)), some (zi (nI x)), none] [] [zH, zG F0 G A1 B] 0 0 24 := by
    intro m
    induction m with
    | zero => intro x A1 hm; omega
    | succ m ih =>
      intro x A1 hm hx hA hr
      refine z_iload_n F dX6_waysByLines_24 rfl ?_
      refine z_aload_n F dX6_waysByLines_25 rfl ?_
      refine z_mi F rfl 4 rfl (Nat.le_of_ble_eq_true rfl) rfl q1484 dX6_waysByLines_26 ?_
      refine z_ieq (h4) ?_
      refine z_icmp_geN F (by omega) (by omega) (tgt := 79) dX6_waysByLines_29 (by decide) (fun c_29 => ?_) (fun c_29 => ?_)
      · have ex : x = n := by omega
        subst ex
        refine z_iconst F (nI 0) dX6_waysByLines_79 rfl ?_
        refine z_istore_n F dX6_waysByLines_80 (Nat.le_of_ble_eq_true rfl) ?_
        refine z_leq (L' := [_, _, _, _, _]) rfl ?_
        exact loop _ 0 A1 (R0l f) (Nat.lt_succ_self _) hA flw.rf (fun p q hp hq => (hr p q (by omega) (by omega)).trans (by rw [if_pos (by omega)]))
      · refine z_iconst F (nI 0) dX6_waysByLines_32 rfl ?_
        refine z_istore F dX6_waysByLines_33 (Nat.le_of_ble_eq_true rfl) ?_
        refine z_leq (L' := [_, _, _, _, _]) rfl ?_
        exact inner x (by omega) _ 0 A1 (Nat.lt_succ_self _) (by omega) hA hr (fun A2 h1 h2 => ih (x + 1) A2 (by omega) (by omega) h1 h2)
  have first : ∀ (m k : Nat) (A1 : Nat → Nat → Int32), 2304 - k < m → k ≤ 2304 → frm [26, 27, 28] A A1 → (∀ i, i < k → A1 26 i = nI 0) → Z X [some (zr 1 0), some (zi (nI a)), some (zi (nI b)), some (zi (nI k)), none] [] [zH, zG F0 G A1 B] 0 0 2 := by
    intro m
    induction m with
    | zero => intro k A1 hm; omega
    | succ m ih =>
      intro k A1 hm hk hA h0
      refine z_iload_n F dX6_waysByLines_2 rfl ?_
      refine z_sipush F (nI 2304) dX6_waysByLines_3 rfl ?_
      refine z_icmp_geN F (by omega) (by omega) (tgt := 22) dX6_waysByLines_6 (by decide) (fun c_6 => ?_) (fun c_6 => ?_)
      · refine z_iconst F (nI 0) dX6_waysByLines_22 rfl ?_
        refine z_istore_n F dX6_waysByLines_23 (Nat.le_of_ble_eq_true rfl) ?_
        refine z_leq (L' := [_, _, _, _, _]) rfl ?_
        exact outer _ 0 A1 (Nat.lt_succ_self _) (by omega) hA (fun p q hp hq => by rw [if_neg (by omega)]; exact h0 _ (by omega))
      · refine z_aload_n F dX6_waysByLines_9 rfl ?_
        refine z_ma F rfl 26 rfl (Nat.le_of_ble_eq_true rfl) rfl q1506 dX6_waysByLines_10 ?_
        refine z_iload_n F dX6_waysByLines_13 rfl ?_
        refine z_iconst F (nI 0) dX6_waysByLines_14 rfl ?_
        refine z_iastGN F rfl rfl (Nat.le_of_ble_eq_true rfl) (by omega) dX6_waysByLines_15 ?_
        refine z_weq (w' := [_, _]) rfl ?_
        refine z_iincN F 1 dX6_waysByLines_16 rfl rfl ?_
        refine z_leq (L' := [_, _, _, _, _]) rfl ?_
        refine z_goto F (tgt := 2) dX6_waysByLines_19 (by decide) ?_
        refine ih (k + 1) _ (by omega) (by omega) (frm_zup hA (by decide)) (fun i hi => ?_)
        rw [zup2_at]
        by_cases e : i = k
        · rw [if_pos e]
        · rw [if_neg e]; exact h0 i (by omega)
  refine z_iconst F (nI 0) dX6_waysByLines_0 rfl ?_
  refine z_istore_n F dX6_waysByLines_1 (Nat.le_of_ble_eq_true rfl) ?_
  refine z_leq (L' := [_, _, _, _, _]) rfl ?_
  exact first _ 0 _ (Nat.lt_succ_self _) (by omega) frm.rf (fun i h => by omega)
def rk1 (n : Nat) (f : Nat → Int32) (x y : Nat) (A : Nat → Nat → Int32) : Prop := ∀ p q, p < 48 → q < 48 → A 26 (48 * p + q) = nI (if p < x ∨ (24 ≤ p ∧ p < 24 + x) ∨ p = x ∧ 0 < y ∨ p = x + 24 ∧ q + 1 < y then R0k n f p q else 0)
theorem rk1_a {n : Nat} {f : Nat → Int32} {x : Nat} {A : Nat → Nat → Int32} (hx : x < n) (hn : n ≤ 24) (h : rk1 n f x 0 A) : rk1 n f x 1 (zup2 A 26 (48 * x + x + 24) (nI 1)) := fun p q hp hq => by
  rw [zup2_at]
  by_cases e : p = x ∧ q = x + 24
  · obtain ⟨rfl, rfl⟩ := e
    rw [if_pos (by omega), if_pos (by omega), R0k, if_pos (by omega), if_pos ⟨hx, rfl⟩]
  · rw [if_neg (by omega), h p q hp hq]
    by_cases e2 : p = x
    · subst e2
      rw [if_neg (by omega), if_pos (by omega), R0k, if_pos (by omega), if_neg (by omega)]
    · by_cases e3 : p < x ∨ 24 ≤ p ∧ p < 24 + x
      · rw [if_pos (by omega), if_pos (by omega)]
      · rw [if_neg (by omega), if_neg (by omega)]
theorem rk1_step {n : Nat} {f : Nat → Int32} {x y : Nat} {A : Nat → Nat → Int32} (hx : x < n) (hy : y < n) (hn : n ≤ 24) (h : rk1 n f x (y + 1) A) : (bt (f x) y = true → rk1 n f x (y + 2) (zup2 A 26 (48 * (x + 24) + y) (nI 1))) ∧ (bt (f x) y = false → rk1 n f x (y + 2) A) := by
  have key : ∀ p q, p < 48 → q < 48 → ¬ (p = x + 24 ∧ q = y) → A 26 (48 * p + q) = nI (if p < x ∨ (24 ≤ p ∧ p < 24 + x) ∨ p = x ∧ 0 < y + 2 ∨ p = x + 24 ∧ q + 1 < y + 2 then R0k n f p q else 0) := fun p q hp hq hne => by
    rw [h p q hp hq]
    by_cases h1 : p < x ∨ (24 ≤ p ∧ p < 24 + x) ∨ p = x ∧ 0 < y + 1 ∨ p = x + 24 ∧ q + 1 < y + 1
    · rw [if_pos h1, if_pos (by omega)]
    · rw [if_neg h1, if_neg (by omega)]
  constructor
  · intro hb p q hp hq
    rw [zup2_at]
    by_cases e : p = x + 24 ∧ q = y
    · obtain ⟨rfl, rfl⟩ := e
      rw [if_pos rfl, if_pos (by omega), R0k, if_neg (by omega), if_pos ⟨by omega, hy, by rw [Nat.add_sub_cancel]; exact hb⟩]
    · rw [if_neg (by omega)]; exact key p q hp hq e
  · intro hb p q hp hq
    by_cases e : p = x + 24 ∧ q = y
    · obtain ⟨rfl, rfl⟩ := e
      rw [h _ _ hp hq, if_neg (by omega), if_pos (by omega), R0k, if_neg (by omega), if_neg (by rw [Nat.add_sub_cancel, hb]; simp)]
    · exact key p q hp hq e
theorem rk1_row {n : Nat} {f : Nat → Int32} {x : Nat} {A : Nat → Nat → Int32} (hx : x < n) (hn : n ≤ 24) (h : rk1 n f x (n + 1) A) : rk1 n f (x + 1) 0 A := fun p q hp hq => by
  rw [h p q hp hq]
  by_cases h1 : p < x ∨ (24 ≤ p ∧ p < 24 + x) ∨ p = x ∧ 0 < n + 1 ∨ p = x + 24 ∧ q + 1 < n + 1
  · rw [if_pos h1, if_pos (by omega)]
  · rw [if_neg h1]
    by_cases h2 : p = x + 24
    · subst h2
      rw [if_pos (by omega), R0k, if_neg (by omega), if_neg (by omega)]
    · rw [if_neg (by omega)]
theorem rk1_all {n : Nat} {f : Nat → Int32} {A : Nat → Nat → Int32} (hn : n ≤ 24) (h : rk1 n f n 0 A) : ∀ p q, p < 48 → q < 48 → A 26 (48 * p + q) = nI (R0k n f p q) := fun p q hp hq => by
  rw [h p q hp hq]
  by_cases h1 : p < n ∨ (24 ≤ p ∧ p < 24 + n) ∨ p = n ∧ 0 < 0 ∨ p = n + 24 ∧ q + 1 < 0
  · rw [if_pos h1]
  · rw [if_neg h1]
    by_cases h2 : p < 24
    · rw [R0k, if_pos h2, if_neg (by omega)]
    · rw [R0k, if_neg h2, if_neg (by omega)]
theorem c_mwaysK (F0 : Nat → Int32) (G : Nat → Int64) (A : Nat → Nat → Int32) (B : Nat → Nat → Int64) (n a b : Nat) (f : Nat → Int32) (hn : n ≤ 24) (ha : a < n) (hb : b < n) (hab : a ≠ b) (h4 : F0 4 = nI n) (hf : ∀ k, k < n → A 6 k = f k) :
    zCtr yX6_waysByKnots cX6_waysByKnots 5 (some .int) 1 0 0 [zr 1 0, zi (nI a), zi (nI b)] [zH, zG F0 G A B] (fun r w => r = some (zi (nI (mfl n f 1 a b))) ∧ ∃ A', w = [zH, zG F0 G A' B] ∧ frm [26, 27, 28] A A') zNx := by
  refine z_start (by decide) [some (zr 1 0), some (zi (nI a)), some (zi (nI b)), none, none] rfl (fun _ => Nat.le_of_ble_eq_true rfl) (fun _ => rfl) (fun X F E hno hin => ?_)
  have loop : ∀ (m w0 : Nat) (A1 : Nat → Nat → Int32) (R : Nat → Nat → Nat), 3000 - w0 < m → frm [26, 27, 28] A A1 → flw (R0k n f) R 48 (a + 24) b w0 → (∀ p q, p < 48 → q < 48 → A1 26 (48 * p + q) = nI (R p q)) → Z X [some (zr 1 0), some (zi (nI a)), some (zi (nI b)), some (zi (nI w0)), none] [] [zH, zG F0 G A1 B] 0 0 99 := by
    intro m
    induction m with
    | zero => intro w0 A1 R hm; omega
    | succ m ih =>
      intro w0 A1 R hm hA hfl hM
      have hle := hfl.le (by omega)
      have hle2 := cutr_le (V := 48) (R0k_le n f) (fun q => decide (q = a + 24))
      have hR : ∀ p q, R p q + R q p ≤ 60 := fun p q => by have := hfl.1 p q; have := R0k_le n f p q; have := R0k_le n f q p; omega
      refine z_aload_n F dX6_waysByKnots_99 rfl ?_
      refine z_iload_n F dX6_waysByKnots_100 rfl ?_
      refine z_bipush F (nI 24) dX6_waysByKnots_101 rfl ?_
      refine z_iaddN F dX6_waysByKnots_103 ?_
      refine z_iload_n F dX6_waysByKnots_104 rfl ?_
      refine z_bipush F (nI 48) dX6_waysByKnots_105 rfl ?_
      refine z_callV F (c_mfinds _ _ _ _ 48 (a + 24) b R (by omega) (by omega) (by omega) hM hR) 3 rfl (lw_V q1904 q1906 qs68 q117 q1907) (by decide +kernel) ⟨Nat.le_of_ble_eq_true rfl, Nat.le_of_ble_eq_true rfl⟩ ⟨by omega, by omega⟩ [0, 1] 2 ⟨rfl, rfl, rfl, ⟨Or.inl rfl, Or.inr rfl, trivial⟩⟩ (fun h => nomatch h) (Nat.le_of_ble_eq_true rfl) ⟨⟨Or.inr trivial, Or.inl rfl, trivial⟩, rfl, rfl, rfl, Nat.le_of_ble_eq_true rfl⟩ rfl zC6 (zat_G0 rfl) rfl dX6_waysByKnots_107 (fun r_107 w_107 hp => ?_) (fun _ _ h => h.elim)
      obtain ⟨res, rfl, A2, rfl, a1, hyes, hno⟩ := hp
      refine z_weq (w' := [zH, zG _ _ _ _]) rfl ?_
      refine z_seq (S' := zi _ :: _) rfl ?_
      refine z_if_eqB F (tgt := 119) dX6_waysByKnots_110 (by decide) (fun c_110 => ?_) (fun c_110 => ?_)
      · refine z_iload_n F dX6_waysByKnots_119 rfl ?_
        exact z_iret F E rfl dX6_waysByKnots_120 (by omega) (by omega) (⟨by rw [mfl_of (isMin_k hn (by omega) (hfl.done (hno c_110)))], A2, rfl, hA.tr a1 (by decide) (by decide)⟩)
      · obtain ⟨R1, h1, h2, h3⟩ := hyes c_110
        refine z_iincN F 1 dX6_waysByKnots_113 rfl rfl ?_
        refine z_leq (L' := [_, _, _, _, _]) rfl ?_
        refine z_goto F (tgt := 99) dX6_waysByKnots_116 (by decide) ?_
        exact ih (w0 + 1) A2 R1 (by omega) (hA.tr a1 (by decide) (by decide)) (flw_one hfl h1 h2) h3
  have inner : ∀ (x : Nat), x < n → ∀ (m y : Nat) (A1 : Nat → Nat → Int32), n - y < m → y ≤ n → frm [26, 27, 28] A A1 → rk1 n f x (y + 1) A1 → (∀ A2, frm [26, 27, 28] A A2 → rk1 n f (x + 1) 0 A2 → Z X [some (zr 1 0), some (zi (nI a)), some (zi (nI b)), some (zi (nI (x + 1))), none] [] [zH, zG F0 G A2 B] 0 0 24) → Z X [some (zr 1 0), some (zi (nI a)), some (zi (nI b)), some (zi (nI x)), some (zi (nI y))] [] [zH, zG F0 G A1 B] 0 0 50 := by
    intro x hx m
    induction m with
    | zero => intro y A1 hm; omega
    | succ m ih =>
      intro y A1 hm hy hA hr kk
      refine z_iload F dX6_waysByKnots_50 rfl ?_
      refine z_aload_n F dX6_waysByKnots_52 rfl ?_
      refine z_mi F rfl 4 rfl (Nat.le_of_ble_eq_true rfl) rfl q1484 dX6_waysByKnots_53 ?_
      refine z_ieq (h4) ?_
      refine z_icmp_geN F (by omega) (by omega) (tgt := 91) dX6_waysByKnots_56 (by decide) (fun c_56 => ?_) (fun c_56 => ?_)
      · have ey : y = n := by omega
        subst ey
        refine z_iincN F 1 dX6_waysByKnots_91 rfl rfl ?_
        refine z_leq (L' := [_, _, _, _, _]) rfl ?_
        refine z_goto F (tgt := 24) dX6_waysByKnots_94 (by decide) ?_
        refine z_loc _ ?_ (kk A1 hA (rk1_row hx hn hr))
        exact ⟨rfl, rfl, rfl, rfl, trivial⟩
      · refine z_aload_n F dX6_waysByKnots_59 rfl ?_
        refine z_iload_n F dX6_waysByKnots_60 rfl ?_
        refine z_iload F dX6_waysByKnots_61 rfl ?_
        refine z_callV F (c_isJoined _ _ _ _ x y (by omega) (by omega)) 2 rfl (lw_V q1748 q1750 qs46 q117 q1751) (by decide +kernel) ⟨Nat.le_of_ble_eq_true rfl, Nat.le_of_ble_eq_true rfl⟩ ⟨by omega, by omega⟩ [0, 1] 2 ⟨rfl, rfl, rfl, ⟨Or.inl rfl, Or.inr rfl, trivial⟩⟩ (fun h => nomatch h) (Nat.le_of_ble_eq_true rfl) ⟨⟨Or.inr trivial, Or.inl rfl, trivial⟩, rfl, rfl, rfl, Nat.le_of_ble_eq_true rfl⟩ rfl zC6 (zat_G0 rfl) rfl dX6_waysByKnots_63 (fun r_63 w_63 hp => ?_) (fun _ _ h => h.elim)
        obtain ⟨rfl, rfl⟩ := hp
        rw [hA.at 6 rfl, hf x hx]
        refine z_weq (w' := [zH, zG _ _ _ _]) rfl ?_
        refine z_seq (S' := zi _ :: _) rfl ?_
        refine z_if_eqB F (tgt := 85) dX6_waysByKnots_66 (by decide) (fun c_66 => ?_) (fun c_66 => ?_)
        · refine z_iincN F 1 dX6_waysByKnots_85 rfl rfl ?_
          refine z_leq (L' := [_, _, _, _, _]) rfl ?_
          refine z_goto F (tgt := 50) dX6_waysByKnots_88 (by decide) ?_
          exact ih (y + 1) _ (by omega) (by omega) hA ((rk1_step hx (by omega) hn hr).2 c_66) kk
        · refine z_aload_n F dX6_waysByKnots_69 rfl ?_
          refine z_ma F rfl 26 rfl (Nat.le_of_ble_eq_true rfl) rfl q1506 dX6_waysByKnots_70 ?_
          refine z_bipush F (nI 48) dX6_waysByKnots_73 rfl ?_
          refine z_iload_n F dX6_waysByKnots_75 rfl ?_
          refine z_bipush F (nI 24) dX6_waysByKnots_76 rfl ?_
          refine z_iaddN F dX6_waysByKnots_78 ?_
          refine z_imulN F dX6_waysByKnots_79 ?_
          refine z_iload F dX6_waysByKnots_80 rfl ?_
          refine z_iaddN F dX6_waysByKnots_82 ?_
          refine z_iconst F (nI 1) dX6_waysByKnots_83 rfl ?_
          refine z_iastGN F rfl rfl (Nat.le_of_ble_eq_true rfl) (by omega) dX6_waysByKnots_84 ?_
          refine z_weq (w' := [_, _]) rfl ?_
          refine z_iincN F 1 dX6_waysByKnots_85 rfl rfl ?_
          refine z_leq (L' := [_, _, _, _, _]) rfl ?_
          refine z_goto F (tgt := 50) dX6_waysByKnots_88 (by decide) ?_
          exact ih (y + 1) _ (by omega) (by omega) (frm_zup hA (by decide)) ((rk1_step hx (by omega) hn hr).1 c_66) kk
  have outer : ∀ (m x : Nat) (A1 : Nat → Nat → Int32), n - x < m → x ≤ n → frm [26, 27, 28] A A1 → rk1 n f x 0 A1 → Z X [some (zr 1 0), some (zi (nI a)), some (zi (nI b)), some (zi (nI x)), none] [] [zH, zG F0 G A1 B] 0 0 24 := by
    intro m
    induction m with
    | zero => intro x A1 hm; omega
    | succ m ih =>
      intro x A1 hm hx hA hr
      refine z_iload_n F dX6_waysByKnots_24 rfl ?_
      refine z_aload_n F dX6_waysByKnots_25 rfl ?_
      refine z_mi F rfl 4 rfl (Nat.le_of_ble_eq_true rfl) rfl q1484 dX6_waysByKnots_26 ?_
      refine z_ieq (h4) ?_
      refine z_icmp_geN F (by omega) (by omega) (tgt := 97) dX6_waysByKnots_29 (by decide) (fun c_29 => ?_) (fun c_29 => ?_)
      · have ex : x = n := by omega
        subst ex
        refine z_iconst F (nI 0) dX6_waysByKnots_97 rfl ?_
        refine z_istore_n F dX6_waysByKnots_98 (Nat.le_of_ble_eq_true rfl) ?_
        refine z_leq (L' := [_, _, _, _, _]) rfl ?_
        exact loop _ 0 A1 (R0k x f) (Nat.lt_succ_self _) hA flw.rf (rk1_all hn hr)
      · refine z_aload_n F dX6_waysByKnots_32 rfl ?_
        refine z_ma F rfl 26 rfl (Nat.le_of_ble_eq_true rfl) rfl q1506 dX6_waysByKnots_33 ?_
        refine z_bipush F (nI 48) dX6_waysByKnots_36 rfl ?_
        refine z_iload_n F dX6_waysByKnots_38 rfl ?_
        refine z_imulN F dX6_waysByKnots_39 ?_
        refine z_iload_n F dX6_waysByKnots_40 rfl ?_
        refine z_iaddN F dX6_waysByKnots_41 ?_
        refine z_bipush F (nI 24) dX6_waysByKnots_42 rfl ?_
        refine z_iaddN F dX6_waysByKnots_44 ?_
        refine z_iconst F (nI 1) dX6_waysByKnots_45 rfl ?_
        refine z_iastGN F rfl rfl (Nat.le_of_ble_eq_true rfl) (by omega) dX6_waysByKnots_46 ?_
        refine z_weq (w' := [_, _]) rfl ?_
        refine z_iconst F (nI 0) dX6_waysByKnots_47 rfl ?_
        refine z_istore F dX6_waysByKnots_48 (Nat.le_of_ble_eq_true rfl) ?_
        refine z_leq (L' := [_, _, _, _, _]) rfl ?_
        exact inner x (by omega) _ 0 _ (Nat.lt_succ_self _) (by omega) (frm_zup hA (by decide)) (rk1_a (by omega) hn hr) (fun A2 h1 h2 => ih (x + 1) A2 (by omega) (by omega) h1 h2)
  have first : ∀ (m k : Nat) (A1 : Nat → Nat → Int32), 2304 - k < m → k ≤ 2304 → frm [26, 27, 28] A A1 → (∀ i, i < k → A1 26 i = nI 0) → Z X [some (zr 1 0), some (zi (nI a)), some (zi (nI b)), some (zi (nI k)), none] [] [zH, zG F0 G A1 B] 0 0 2 := by
    intro m
    induction m with
    | zero => intro k A1 hm; omega
    | succ m ih =>
      intro k A1 hm hk hA h0
      refine z_iload_n F dX6_waysByKnots_2 rfl ?_
      refine z_sipush F (nI 2304) dX6_waysByKnots_3 rfl ?_
      refine z_icmp_geN F (by omega) (by omega) (tgt := 22) dX6_waysByKnots_6 (by decide) (fun c_6 => ?_) (fun c_6 => ?_)
      · refine z_iconst F (nI 0) dX6_waysByKnots_22 rfl ?_
        refine z_istore_n F dX6_waysByKnots_23 (Nat.le_of_ble_eq_true rfl) ?_
        refine z_leq (L' := [_, _, _, _, _]) rfl ?_
        exact outer _ 0 A1 (Nat.lt_succ_self _) (by omega) hA (fun p q hp hq => by rw [if_neg (by omega)]; exact h0 _ (by omega))
      · refine z_aload_n F dX6_waysByKnots_9 rfl ?_
        refine z_ma F rfl 26 rfl (Nat.le_of_ble_eq_true rfl) rfl q1506 dX6_waysByKnots_10 ?_
        refine z_iload_n F dX6_waysByKnots_13 rfl ?_
        refine z_iconst F (nI 0) dX6_waysByKnots_14 rfl ?_
        refine z_iastGN F rfl rfl (Nat.le_of_ble_eq_true rfl) (by omega) dX6_waysByKnots_15 ?_
        refine z_weq (w' := [_, _]) rfl ?_
        refine z_iincN F 1 dX6_waysByKnots_16 rfl rfl ?_
        refine z_leq (L' := [_, _, _, _, _]) rfl ?_
        refine z_goto F (tgt := 2) dX6_waysByKnots_19 (by decide) ?_
        refine ih (k + 1) _ (by omega) (by omega) (frm_zup hA (by decide)) (fun i hi => ?_)
        rw [zup2_at]
        by_cases e : i = k
        · rw [if_pos e]
        · rw [if_neg e]; exact h0 i (by omega)
  refine z_iconst F (nI 0) dX6_waysByKnots_0 rfl ?_
  refine z_istore_n F dX6_waysByKnots_1 (Nat.le_of_ble_eq_true rfl) ?_
  refine z_leq (L' := [_, _, _, _, _]) rfl ?_
  exact first _ 0 _ (Nat.lt_succ_self _) (by omega) frm.rf (fun i h => by omega)
theorem c_mthin (F0 : Nat → Int32) (G : Nat → Int64) (A : Nat → Nat → Int32) (B : Nat → Nat → Int64) (n : Nat) (f : Nat → Int32) (hn : n ≤ 24) (h1 : 1 ≤ n) (h4 : F0 4 = nI n) (hf : ∀ k, k < n → A 6 k = f k) :
    zCtr yX6_thin cX6_thin 4 (some .int) 2 0 0 [zr 1 0] [zH, zG F0 G A B] (fun r w => r = some (zi (if n = 1 then -1 else nI (lsf (fun b => mfl n f 24 0 b) 99 n))) ∧ ∃ A', w = [zH, zG F0 G A' B] ∧ frm [26, 27, 28] A A') zNx := by
  refine z_start (by decide) [some (zr 1 0), none, none, none] rfl (fun _ => Nat.le_of_ble_eq_true rfl) (fun _ => rfl) (fun X F E hno hin => ?_)
  have loop : ∀ (m b : Nat) (A1 : Nat → Nat → Int32), n - b < m → 1 ≤ b → b ≤ n → ¬ n = 1 → frm [26, 27, 28] A A1 → Z X [some (zr 1 0), some (zi (nI (lsf (fun b => mfl n f 24 0 b) 99 b))), some (zi (nI b)), none] [] [zH, zG F0 G A1 B] 0 0 15 := by
    intro m
    induction m with
    | zero => intro b A1 hm; omega
    | succ m ih =>
      intro b A1 hm hb1 hb hn1 hA
      have hl := lsf_le (fun b => mfl n f 24 0 b) 99 b
      refine z_iload_n F dX6_thin_15 rfl ?_
      refine z_aload_n F dX6_thin_16 rfl ?_
      refine z_mi F rfl 4 rfl (Nat.le_of_ble_eq_true rfl) rfl q1484 dX6_thin_17 ?_
      refine z_ieq (h4) ?_
      refine z_icmp_geN F (by omega) (by omega) (tgt := 47) dX6_thin_20 (by decide) (fun c_20 => ?_) (fun c_20 => ?_)
      · have eb : b = n := by omega
        subst eb
        refine z_iload_n F dX6_thin_47 rfl ?_
        exact z_iret F E rfl dX6_thin_48 (by omega) (by omega) (⟨by rw [if_neg hn1], A1, rfl, hA⟩)
      · refine z_aload_n F dX6_thin_23 rfl ?_
        refine z_iconst F (nI 0) dX6_thin_24 rfl ?_
        refine z_iload_n F dX6_thin_25 rfl ?_
        refine z_callV F (c_mways _ _ _ _ n 0 b f hn (by omega) (by omega) (by omega) h4 (fun k hk => (congrFun (hA.at 6 rfl) k).trans (hf k hk))) 2 rfl (lw_V q1900 q1902 qs67 q117 q1903) (by decide +kernel) ⟨Nat.le_of_ble_eq_true rfl, Nat.le_of_ble_eq_true rfl⟩ ⟨by omega, by omega⟩ [0, 1] 2 ⟨rfl, rfl, rfl, ⟨Or.inl rfl, Or.inr rfl, trivial⟩⟩ (fun h => nomatch h) (Nat.le_of_ble_eq_true rfl) ⟨⟨Or.inr trivial, Or.inl rfl, trivial⟩, rfl, rfl, rfl, Nat.le_of_ble_eq_true rfl⟩ rfl zC6 (zat_G0 rfl) rfl dX6_thin_26 (fun r_26 w_26 hp => ?_) (fun _ _ h => h.elim)
        obtain ⟨rfl, A2, rfl, a1⟩ := hp
        have hml := mfl_lt (f := f) (cp := 24) (a := 0) (b := b) hn (by omega) (by omega)
        refine z_weq (w' := [zH, zG _ _ _ _]) rfl ?_
        refine z_seq (S' := zi _ :: _) rfl ?_
        refine z_istore_n F dX6_thin_29 (Nat.le_of_ble_eq_true rfl) ?_
        refine z_leq (L' := [_, _, _, _]) rfl ?_
        refine z_iload_n F dX6_thin_30 rfl ?_
        refine z_iload_n F dX6_thin_31 rfl ?_
        refine z_icmp_geN F (by omega) (by omega) (tgt := 39) dX6_thin_32 (by decide) (fun c_32 => ?_) (fun c_32 => ?_)
        · refine z_iload_n F dX6_thin_39 rfl ?_
          refine z_istore_n F dX6_thin_40 (Nat.le_of_ble_eq_true rfl) ?_
          refine z_leq (L' := [_, _, _, _]) rfl ?_
          refine z_iincN F 1 dX6_thin_41 rfl rfl ?_
          refine z_leq (L' := [_, _, _, _]) rfl ?_
          refine z_goto F (tgt := 15) dX6_thin_44 (by decide) ?_
          refine z_loc [some (zr 1 0), some (zi (nI (lsf (fun b => mfl n f 24 0 b) 99 (b + 1)))), some (zi (nI (b + 1))), none] ⟨rfl, ?_, rfl, trivial⟩ (ih (b + 1) _ (by omega) (by omega) (by omega) hn1 (hA.tr a1 (by decide) (by decide)))
          rw [lsf_s hb1]
          first | (rw [Nat.min_eq_left (by omega)]; done) | (rw [Nat.min_eq_right (by omega)]; done) | (rw [Nat.min_eq_left (by omega)]; rfl) | (rw [Nat.min_eq_right (by omega)]; rfl)
        · refine z_iload_n F dX6_thin_35 rfl ?_
          refine z_goto F (tgt := 40) dX6_thin_36 (by decide) ?_
          refine z_istore_n F dX6_thin_40 (Nat.le_of_ble_eq_true rfl) ?_
          refine z_leq (L' := [_, _, _, _]) rfl ?_
          refine z_iincN F 1 dX6_thin_41 rfl rfl ?_
          refine z_leq (L' := [_, _, _, _]) rfl ?_
          refine z_goto F (tgt := 15) dX6_thin_44 (by decide) ?_
          refine z_loc [some (zr 1 0), some (zi (nI (lsf (fun b => mfl n f 24 0 b) 99 (b + 1)))), some (zi (nI (b + 1))), none] ⟨rfl, ?_, rfl, trivial⟩ (ih (b + 1) _ (by omega) (by omega) (by omega) hn1 (hA.tr a1 (by decide) (by decide)))
          rw [lsf_s hb1]
          first | (rw [Nat.min_eq_left (by omega)]; done) | (rw [Nat.min_eq_right (by omega)]; done) | (rw [Nat.min_eq_left (by omega)]; rfl) | (rw [Nat.min_eq_right (by omega)]; rfl)
  refine z_aload_n F dX6_thin_0 rfl ?_
  refine z_mi F rfl 4 rfl (Nat.le_of_ble_eq_true rfl) rfl q1484 dX6_thin_1 ?_
  refine z_ieq (h4) ?_
  refine z_iconst F (nI 1) dX6_thin_4 rfl ?_
  refine z_icmp_neN F (by omega) (by omega) (tgt := 10) dX6_thin_5 (by decide) (fun c_5 => ?_) (fun c_5 => ?_)
  · refine z_bipush F (nI 99) dX6_thin_10 rfl ?_
    refine z_istore_n F dX6_thin_12 (Nat.le_of_ble_eq_true rfl) ?_
    refine z_leq (L' := [_, _, _, _]) rfl ?_
    refine z_iconst F (nI 1) dX6_thin_13 rfl ?_
    refine z_istore_n F dX6_thin_14 (Nat.le_of_ble_eq_true rfl) ?_
    refine z_leq (L' := [_, _, _, _]) rfl ?_
    exact loop _ 1 A (Nat.lt_succ_self _) (by omega) (by omega) c_5 frm.rf
  · refine z_iconst F (-1) dX6_thin_8 rfl ?_
    exact z_iret F E rfl dX6_thin_9 (by omega) (by omega) (⟨by rw [if_pos c_5], A, rfl, frm.rf⟩)
theorem c_mthinK (F0 : Nat → Int32) (G : Nat → Int64) (A : Nat → Nat → Int32) (B : Nat → Nat → Int64) (n : Nat) (f : Nat → Int32) (hn : n ≤ 24) (h1 : 1 ≤ n) (h4 : F0 4 = nI n) (hf : ∀ k, k < n → A 6 k = f k) :
    zCtr yX6_thinOfKnots cX6_thinOfKnots 5 (some .int) 2 0 0 [zr 1 0] [zH, zG F0 G A B] (fun r w => r = some (zi (nI (tka (fun a b => mfl n f 1 a b) n f n))) ∧ ∃ A', w = [zH, zG F0 G A' B] ∧ frm [26, 27, 28] A A') zNx := by
  refine z_start (by decide) [some (zr 1 0), none, none, none, none] rfl (fun _ => Nat.le_of_ble_eq_true rfl) (fun _ => rfl) (fun X F E hno hin => ?_)
  have inner : ∀ (a : Nat), a < n → ∀ (m b : Nat) (A1 : Nat → Nat → Int32), n + 1 - b < m → a < b → b ≤ n → frm [26, 27, 28] A A1 → (∀ A2, frm [26, 27, 28] A A2 → Z X [some (zr 1 0), some (zi (nI (tka (fun a b => mfl n f 1 a b) n f (a + 1)))), some (zi (nI (a + 1))), none, none] [] [zH, zG F0 G A2 B] 0 0 9) → Z X [some (zr 1 0), some (zi (nI (tkr (fun a b => mfl n f 1 a b) f a (tka (fun a b => mfl n f 1 a b) n f a) b))), some (zi (nI a)), some (zi (nI b)), none] [] [zH, zG F0 G A1 B] 0 0 21 := by
    intro a ha m
    induction m with
    | zero => intro b A1 hm; omega
    | succ m ih =>
      intro b A1 hm hab hb hA kk
      have hl := tkr_le (fun a b => mfl n f 1 a b) f a (tka (fun a b => mfl n f 1 a b) n f a) b
      have hl2 := tka_le (fun a b => mfl n f 1 a b) n f a
      refine z_iload_n F dX6_thinOfKnots_21 rfl ?_
      refine z_aload_n F dX6_thinOfKnots_22 rfl ?_
      refine z_mi F rfl 4 rfl (Nat.le_of_ble_eq_true rfl) rfl q1484 dX6_thinOfKnots_23 ?_
      refine z_ieq (h4) ?_
      refine z_icmp_geN F (by omega) (by omega) (tgt := 68) dX6_thinOfKnots_26 (by decide) (fun c_26 => ?_) (fun c_26 => ?_)
      · have eb : b = n := by omega
        subst eb
        refine z_iincN F 1 dX6_thinOfKnots_68 rfl rfl ?_
        refine z_leq (L' := [_, _, _, _, _]) rfl ?_
        refine z_goto F (tgt := 9) dX6_thinOfKnots_71 (by decide) ?_
        refine z_loc _ ?_ (kk A1 hA)
        exact ⟨rfl, rfl, rfl, trivial⟩
      · refine z_aload_n F dX6_thinOfKnots_29 rfl ?_
        refine z_iload_n F dX6_thinOfKnots_30 rfl ?_
        refine z_iload_n F dX6_thinOfKnots_31 rfl ?_
        refine z_callV F (c_isJoined _ _ _ _ a b (by omega) (by omega)) 2 rfl (lw_V q1748 q1750 qs46 q117 q1751) (by decide +kernel) ⟨Nat.le_of_ble_eq_true rfl, Nat.le_of_ble_eq_true rfl⟩ ⟨by omega, by omega⟩ [0, 1] 2 ⟨rfl, rfl, rfl, ⟨Or.inl rfl, Or.inr rfl, trivial⟩⟩ (fun h => nomatch h) (Nat.le_of_ble_eq_true rfl) ⟨⟨Or.inr trivial, Or.inl rfl, trivial⟩, rfl, rfl, rfl, Nat.le_of_ble_eq_true rfl⟩ rfl zC6 (zat_G0 rfl) rfl dX6_thinOfKnots_32 (fun r_32 w_32 hp => ?_) (fun _ _ h => h.elim)
        obtain ⟨rfl, rfl⟩ := hp
        rw [hA.at 6 rfl, hf a ha]
        refine z_weq (w' := [zH, zG _ _ _ _]) rfl ?_
        refine z_seq (S' := zi _ :: _) rfl ?_
        refine z_if_eqB F (tgt := 41) dX6_thinOfKnots_35 (by decide) (fun c_35 => ?_) (fun c_35 => ?_)
        · refine z_aload_n F dX6_thinOfKnots_41 rfl ?_
          refine z_iload_n F dX6_thinOfKnots_42 rfl ?_
          refine z_iload_n F dX6_thinOfKnots_43 rfl ?_
          refine z_callV F (c_mwaysK _ _ _ _ n a b f hn ha (by omega) (by omega) h4 (fun k hk => (congrFun (hA.at 6 rfl) k).trans (hf k hk))) 2 rfl (lw_V q1912 q1914 qs70 q117 q1915) (by decide +kernel) ⟨Nat.le_of_ble_eq_true rfl, Nat.le_of_ble_eq_true rfl⟩ ⟨by omega, by omega⟩ [0, 1] 2 ⟨rfl, rfl, rfl, ⟨Or.inl rfl, Or.inr rfl, trivial⟩⟩ (fun h => nomatch h) (Nat.le_of_ble_eq_true rfl) ⟨⟨Or.inr trivial, Or.inl rfl, trivial⟩, rfl, rfl, rfl, Nat.le_of_ble_eq_true rfl⟩ rfl zC6 (zat_G0 rfl) rfl dX6_thinOfKnots_44 (fun r_44 w_44 hp => ?_) (fun _ _ h => h.elim)
          obtain ⟨rfl, A2, rfl, a1⟩ := hp
          have hml := mfl_lt (f := f) (cp := 1) (a := a) (b := b) hn (by omega) ha
          refine z_weq (w' := [zH, zG _ _ _ _]) rfl ?_
          refine z_seq (S' := zi _ :: _) rfl ?_
          refine z_istore F dX6_thinOfKnots_47 (Nat.le_of_ble_eq_true rfl) ?_
          refine z_leq (L' := [_, _, _, _, _]) rfl ?_
          refine z_iload F dX6_thinOfKnots_49 rfl ?_
          refine z_iload_n F dX6_thinOfKnots_51 rfl ?_
          refine z_icmp_geN F (by omega) (by omega) (tgt := 60) dX6_thinOfKnots_52 (by decide) (fun c_52 => ?_) (fun c_52 => ?_)
          · refine z_iload_n F dX6_thinOfKnots_60 rfl ?_
            refine z_istore_n F dX6_thinOfKnots_61 (Nat.le_of_ble_eq_true rfl) ?_
            refine z_leq (L' := [_, _, _, _, _]) rfl ?_
            refine z_iincN F 1 dX6_thinOfKnots_62 rfl rfl ?_
            refine z_leq (L' := [_, _, _, _, _]) rfl ?_
            refine z_goto F (tgt := 21) dX6_thinOfKnots_65 (by decide) ?_
            refine z_loc [some (zr 1 0), some (zi (nI (tkr (fun a b => mfl n f 1 a b) f a (tka (fun a b => mfl n f 1 a b) n f a) (b + 1)))), some (zi (nI a)), some (zi (nI (b + 1))), none] ⟨rfl, ?_, rfl, rfl, trivial⟩ (ih (b + 1) _ (by omega) (by omega) (by omega) (hA.tr a1 (by decide) (by decide)) kk)
            rw [tkr_y hab c_35]
            first | (rw [Nat.min_eq_left (by omega)]; done) | (rw [Nat.min_eq_right (by omega)]; done) | (rw [Nat.min_eq_left (by omega)]; rfl) | (rw [Nat.min_eq_right (by omega)]; rfl)
          · refine z_iload F dX6_thinOfKnots_55 rfl ?_
            refine z_goto F (tgt := 61) dX6_thinOfKnots_57 (by decide) ?_
            refine z_istore_n F dX6_thinOfKnots_61 (Nat.le_of_ble_eq_true rfl) ?_
            refine z_leq (L' := [_, _, _, _, _]) rfl ?_
            refine z_iincN F 1 dX6_thinOfKnots_62 rfl rfl ?_
            refine z_leq (L' := [_, _, _, _, _]) rfl ?_
            refine z_goto F (tgt := 21) dX6_thinOfKnots_65 (by decide) ?_
            refine z_loc [some (zr 1 0), some (zi (nI (tkr (fun a b => mfl n f 1 a b) f a (tka (fun a b => mfl n f 1 a b) n f a) (b + 1)))), some (zi (nI a)), some (zi (nI (b + 1))), none] ⟨rfl, ?_, rfl, rfl, trivial⟩ (ih (b + 1) _ (by omega) (by omega) (by omega) (hA.tr a1 (by decide) (by decide)) kk)
            rw [tkr_y hab c_35]
            first | (rw [Nat.min_eq_left (by omega)]; done) | (rw [Nat.min_eq_right (by omega)]; done) | (rw [Nat.min_eq_left (by omega)]; rfl) | (rw [Nat.min_eq_right (by omega)]; rfl)
        · refine z_goto F (tgt := 62) dX6_thinOfKnots_38 (by decide) ?_
          refine z_iincN F 1 dX6_thinOfKnots_62 rfl rfl ?_
          refine z_leq (L' := [_, _, _, _, _]) rfl ?_
          refine z_goto F (tgt := 21) dX6_thinOfKnots_65 (by decide) ?_
          refine z_loc [some (zr 1 0), some (zi (nI (tkr (fun a b => mfl n f 1 a b) f a (tka (fun a b => mfl n f 1 a b) n f a) (b + 1)))), some (zi (nI a)), some (zi (nI (b + 1))), none] ⟨rfl, ?_, rfl, rfl, trivial⟩ (ih (b + 1) _ (by omega) (by omega) (by omega) hA kk)
          rw [tkr_n c_35]
  have outer : ∀ (m a : Nat) (A1 : Nat → Nat → Int32), n - a < m → a ≤ n → frm [26, 27, 28] A A1 → Z X [some (zr 1 0), some (zi (nI (tka (fun a b => mfl n f 1 a b) n f a))), some (zi (nI a)), none, none] [] [zH, zG F0 G A1 B] 0 0 9 := by
    intro m
    induction m with
    | zero => intro a A1 hm; omega
    | succ m ih =>
      intro a A1 hm ha hA
      refine z_iload_n F dX6_thinOfKnots_9 rfl ?_
      refine z_aload_n F dX6_thinOfKnots_10 rfl ?_
      refine z_mi F rfl 4 rfl (Nat.le_of_ble_eq_true rfl) rfl q1484 dX6_thinOfKnots_11 ?_
      refine z_ieq (h4) ?_
      refine z_icmp_geN F (by omega) (by omega) (tgt := 74) dX6_thinOfKnots_14 (by decide) (fun c_14 => ?_) (fun c_14 => ?_)
      · have ea : a = n := by omega
        subst ea
        refine z_iload_n F dX6_thinOfKnots_74 rfl ?_
        exact z_iret F E rfl dX6_thinOfKnots_75 (by omega) (by omega) (⟨rfl, A1, rfl, hA⟩)
      · refine z_iload_n F dX6_thinOfKnots_17 rfl ?_
        refine z_iconst F (nI 1) dX6_thinOfKnots_18 rfl ?_
        refine z_iaddN F dX6_thinOfKnots_19 ?_
        refine z_istore_n F dX6_thinOfKnots_20 (Nat.le_of_ble_eq_true rfl) ?_
        refine z_leq (L' := [_, _, _, _, _]) rfl ?_
        refine z_leq (L' := [some (zr 1 0), some (zi (nI (tkr (fun a b => mfl n f 1 a b) f a (tka (fun a b => mfl n f 1 a b) n f a) (a + 1)))), some (zi (nI a)), some (zi (nI (a + 1))), none]) (by rw [tkr_lo _ _ _ _ _ (Nat.le_refl _)]) ?_
        exact inner a (by omega) _ (a + 1) _ (Nat.lt_succ_self _) (by omega) (by omega) hA (fun A2 h => ih (a + 1) A2 (by omega) (by omega) h)
  refine z_aload_n F dX6_thinOfKnots_0 rfl ?_
  refine z_mi F rfl 4 rfl (Nat.le_of_ble_eq_true rfl) rfl q1484 dX6_thinOfKnots_1 ?_
  refine z_ieq (h4) ?_
  refine z_iconst F (nI 1) dX6_thinOfKnots_4 rfl ?_
  refine z_isubN F (by omega) dX6_thinOfKnots_5 ?_
  refine z_istore_n F dX6_thinOfKnots_6 (Nat.le_of_ble_eq_true rfl) ?_
  refine z_leq (L' := [_, _, _, _, _]) rfl ?_
  refine z_iconst F (nI 0) dX6_thinOfKnots_7 rfl ?_
  refine z_istore_n F dX6_thinOfKnots_8 (Nat.le_of_ble_eq_true rfl) ?_
  refine z_leq (L' := [_, _, _, _, _]) rfl ?_
  exact outer _ 0 _ (Nat.lt_succ_self _) (by omega) frm.rf
end C49
