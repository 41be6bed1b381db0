/-! seek: the reference's tries -/
section C9e
def skC (Bs : sBs) (F : Nat → Int32) : Prop := match Bs with
  | none => F 42 = -1
  | some (m, f, s) => F 42 = m ∧ F 39 = nI f ∧ F 40 = nI s ∧ F 41 = nI (pc32 m) ∧ f < 100 ∧ s < 1000 ∧ ∃ j, j < 2 ^ 31 ∧ m = nI j
def mvO (c : Int32) (m n : Nat) (mv : Nat → Nat) (R : Nat → Int32) : Prop := n = fb_ct (fun s => decide (1 ≤ s) && bt c s) m ∧ (∀ j, j < n → R j = nI (mv j) ∧ 1 ≤ mv j ∧ mv j < m ∧ bt c (mv j) = true) ∧ ∀ s, 1 ≤ s → s < m → bt c s = true → ∃ j, j < n ∧ mv j = s
theorem mvO_put {c : Int32} {m n : Nat} {mv : Nat → Nat} {A : Nat → Nat → Int32} (h : mvO c m n mv (A 44)) (h1 : 1 ≤ m) (hb : bt c m = true) : mvO c (m + 1) (n + 1) (fun j => if j = n then m else mv j) (zup2 A 44 n (nI m) 44) := by
  obtain ⟨a1, a2, a3⟩ := h
  refine ⟨by rw [fb_ct_succ, ← a1, hb, decide_eq_true h1]; rfl, fun j hj => ?_, fun s s1 s2 s3 => ?_⟩
  · rw [zup2_row]
    show (if j = n then _ else A 44 j) = nI (if j = n then m else mv j) ∧ 1 ≤ (if j = n then m else mv j) ∧ (if j = n then m else mv j) < m + 1 ∧ bt c (if j = n then m else mv j) = true
    by_cases e : j = n
    · rw [if_pos e, if_pos e]; exact ⟨rfl, h1, by omega, hb⟩
    · rw [if_neg e, if_neg e]
      obtain ⟨q1, q2, q3, q4⟩ := a2 j (by omega)
      exact ⟨q1, q2, by omega, q4⟩
  · by_cases e : s = m
    · exact ⟨n, by omega, (if_pos rfl).trans e.symm⟩
    · obtain ⟨j, j1, j2⟩ := a3 s s1 (by omega) s3
      exact ⟨j, by omega, (if_neg (by omega)).trans j2⟩
theorem mvO_skip {c : Int32} {m n : Nat} {mv : Nat → Nat} {R : Nat → Int32} (h : mvO c m n mv R) (hb : bt c m = false) : mvO c (m + 1) n mv R := by
  obtain ⟨a1, a2, a3⟩ := h
  refine ⟨by rw [fb_ct_succ, ← a1, hb, Bool.and_false]; rfl, fun j hj => ?_, fun s s1 s2 s3 => ?_⟩
  · obtain ⟨q1, q2, q3, q4⟩ := a2 j hj
    exact ⟨q1, q2, by omega, q4⟩
  · by_cases e : s = m
    · rw [e, hb] at s3; cases s3
    · exact a3 s s1 (by omega) s3
def wdP (kd a b : Nat) (rim : Int32) (mv : Nat → Nat) (n x m t : Nat) : Prop := (∃ x' j, x' < x ∧ j < n ∧ bt rim x' = true ∧ t = gth kd a b x' (mv j)) ∨ ∃ j, j < m ∧ bt rim x = true ∧ t = gth kd a b x (mv j)
theorem wdP_up {kd a b : Nat} {rim : Int32} {mv : Nat → Nat} {n x m t : Nat} (hm : m ≤ n) (h : n ≤ m ∨ bt rim x = false) : wdP kd a b rim mv n (x + 1) 0 t ↔ wdP kd a b rim mv n x m t := by
  constructor
  · rintro (⟨x', j, h1, h2, h3, h4⟩ | ⟨j, h1, _⟩)
    · by_cases e : x' = x
      · subst e
        rcases h with h | h
        · exact Or.inr ⟨j, by omega, h3, h4⟩
        · rw [h] at h3; cases h3
      · exact Or.inl ⟨x', j, by omega, h2, h3, h4⟩
    · omega
  · rintro (⟨x', j, h1, h2, h3, h4⟩ | ⟨j, h1, h3, h4⟩)
    · exact Or.inl ⟨x', j, by omega, h2, h3, h4⟩
    · exact Or.inl ⟨x, j, by omega, by omega, h3, h4⟩
def wdB (kd a b : Nat) (rim w : Int32) (mv : Nat → Nat) (n x m : Nat) : Prop := ∀ t, t < 32 → (bt w t = true ↔ wdP kd a b rim mv n x m t)
theorem wdB_put {kd a b : Nat} {rim w : Int32} {mv : Nat → Nat} {n x m : Nat} (h : wdB kd a b rim w mv n x m) (hb : bt rim x = true) (hg : gth kd a b x (mv m) < 32) : wdB kd a b rim (w ||| b1 (gth kd a b x (mv m))) mv n x (m + 1) := fun t ht => by
  rw [bt_or1 _ hg, Bool.or_eq_true, h t ht, decide_eq_true_eq]
  constructor
  · rintro ((z | ⟨j, j1, j2, j3⟩) | z)
    · exact Or.inl z
    · exact Or.inr ⟨j, by omega, j2, j3⟩
    · exact Or.inr ⟨m, by omega, hb, z⟩
  · rintro (z | ⟨j, j1, j2, j3⟩)
    · exact Or.inl (Or.inl z)
    · by_cases e : j = m
      · subst e; exact Or.inr j3
      · exact Or.inl (Or.inr ⟨j, by omega, j2, j3⟩)
def cnS (D : Nat → Option Nat) (n : Nat) : Nat := fb_ct (fun t => (D t).isSome) n
theorem cnS_up {D D' : Nat → Option Nat} {n t : Nat} (ht : t < n) (h1 : D t = none) (h2 : (D' t).isSome = true) (h : ∀ t, (D t).isSome = true → (D' t).isSome = true) : cnS D n + 1 ≤ cnS D' n := by
  have e := fb_ct_upd (fun t => (D t).isSome) true ht
  have e2 : fb_ct (fun k => if k = t then true else (D k).isSome) n ≤ cnS D' n := fb_ct_sub fun k _ hk => by
    by_cases q : k = t
    · rw [q]; exact h2
    · rw [if_neg q] at hk; exact h k hk
  rw [h1, if_neg (by decide), if_pos rfl] at e
  unfold cnS at *
  omega
theorem smL_0 {D : Nat → Option Nat} {n : Nat} : smL 0 D n = 0 := by
  have e : ∀ t, lvv 0 (D t) = 0 := fun t => by
    cases D t with
    | none => rfl
    | some k => exact (if_neg (Nat.not_lt_zero k) : (if k < 0 then k else 0) = 0)
  have e2 : smL 0 D n = fb_sm (fun _ => 0) n := fb_sm_cong fun t _ => e t
  rw [e2, fb_sm_zeroF]
theorem c_mtries (F0 : Nat → Int32) (G : Nat → Int64) (A : Nat → Nat → Int32) (B : Nat → Nat → Int64) (kd a b : Nat) (c : Int32) (Bs : sBs) (h : grok kd a b) (hc : ∀ i, bt c i = true → 1 ≤ i ∧ i < a * b) (hst : ∀ s x, s < a * b → x < a * b → A 43 (24 * s + x) = nI (gth kd a b x s)) (hB : skC Bs F0) :
    zCtr yX6_tries cX6_tries 12 none 1 0 0 [zr 1 0, zi c, zi (nI (a * b))] [zH, zG F0 G A B] (fun r w => r = none ∧ ∃ F' A', w = [zH, zG F' G A' B] ∧ frm [39, 40, 41, 42] F0 F' ∧ frm [44] A A' ∧ skC (lkF (skV kd a b c) c Bs) F') zNx := by
  obtain ⟨jc, hjc, rfl⟩ := nI_bits (c := c) (n := a * b) (by have := h.2.2.2.1; omega) (fun i hi => (hc i hi).2)
  refine z_start (by decide) [some (zr 1 0), some (zi (nI jc)), some (zi (nI (a * b))), none, none, none, none, none, none, none, none, none] rfl (fun _ => Nat.le_of_ble_eq_true rfl) (fun _ => rfl) (fun X F E hno hin => ?_)
  have h4 := h.2.2.2.1
  have h0 : 0 < a * b := Nat.mul_pos h.2.1 h.2.2.1
  have hpc : fb_ct (fun s => decide (1 ≤ s) && bt (nI jc) s) (a * b) = pc32 (nI jc) := by
    unfold pc32
    have e1 : fb_ct (bt (nI jc)) 32 = fb_ct (bt (nI jc)) (a * b) + fb_ct (fun k => bt (nI jc) (a * b + k)) (32 - a * b) := by
      have := fb_ct_split (bt (nI jc)) (a * b) (32 - a * b)
      rw [show a * b + (32 - a * b) = 32 by omega] at this
      exact this
    have e2 : fb_ct (fun k => bt (nI jc) (a * b + k)) (32 - a * b) = 0 := fb_ct_zero.mpr (fun k _ => by
      cases e : bt (nI jc) (a * b + k) with
      | false => rfl
      | true => have := (hc _ e).2; omega)
    rw [e1, e2, Nat.add_zero]
    refine fb_ct_cong fun s _ => ?_
    cases e : bt (nI jc) s with
    | false => simp
    | true => rw [decide_eq_true (hc s e).1]; rfl
  have p1 := pc32_le (nI jc)
  -- the end
  have fin : ∀ (d : Nat) (D : Nat → Option Nat) (sn rim : Int32) (o9 o10 o11 : Option zV) (A1 : Nat → Nat → Int32), frm [44] A A1 → 0 < d → d ≤ 24 → (∀ t, D t = skD kd a b (nI jc) t) → (∀ t k, D t = some k → t < a * b ∧ k < d) → (∀ t, t < 32 → bt sn t = (D t).isSome) → (∃ t, D t = some (d - 1)) → Z X [some (zr 1 0), some (zi (nI jc)), some (zi (nI (a * b))), some (zi (nI (pc32 (nI jc)))), some (zi sn), none, none, some (zi (nI (smL d D (a * b)))), some (zi (nI (d - 1))), none, none, none] [] [zH, zG F0 G A1 B] 0 0 168 := by
    intro d D sn rim o9 o10 o11 A1 hA hd0 hd24 hD hlt hsn hex
    have eD : D = skD kd a b (nI jc) := funext hD
    have eq1 : sn = allB (a * b) ↔ alD D (a * b) = true := by
      rw [alD_iff]
      constructor
      · intro e t ht
        rw [← hsn t (by omega), e]; exact al_t h4 ht
      · intro e
        refine b_ext fun t ht => ?_
        rw [hsn t ht, bt_allB h4]
        by_cases q : t < a * b
        · rw [e t q, decide_eq_true q]
        · rw [decide_eq_false q]
          cases e2 : D t with
          | none => rfl
          | some k => exact absurd (hlt t k e2).1 q
    have hs : smL d D (a * b) = smD D (a * b) := smL_end (fun t k hk => (hlt t k hk).2) _
    rw [hs]
    have hsm : smD D (a * b) ≤ a * b * 24 := smD_le (fun t k hk => by have := (hlt t k hk).2; omega)
    obtain ⟨t0, ht0⟩ := hex
    have hmx : mxO D (a * b) = d - 1 := mxO_eq (hlt t0 _ ht0).1 ht0 (fun t k _ hk => by have := (hlt t k hk).2; omega)
    have hv1 : alD D (a * b) = true → skV kd a b (nI jc) = some (d - 1, smD D (a * b)) := fun z => by unfold skV; rw [← eD, if_pos z, hmx]
    have hv0 : ¬ alD D (a * b) = true → skV kd a b (nI jc) = none := fun z => by unfold skV; rw [← eD, if_neg z]
    have e1 := kyN_n (d - 1) (smD D (a * b)) jc hjc
    rcases Bs with _ | ⟨m, f0, s0⟩
    ·
      have hB0 : F0 42 = -1 := hB
      refine z_iload F dX6_tries_168 rfl ?_
      refine z_iconst F (nI 1) dX6_tries_170 rfl ?_
      refine z_iload_n F dX6_tries_171 rfl ?_
      refine z_ishlB F dX6_tries_172 ?_
      refine z_iconst F (nI 1) dX6_tries_173 rfl ?_
      refine z_isub F dX6_tries_174 ?_
      refine z_icmp_eq F (tgt := 179) dX6_tries_175 (by decide) (fun c_175 => ?_) (fun c_175 => ?_)
      · refine z_aload_n F dX6_tries_179 rfl ?_
        refine z_mi F rfl 42 rfl (Nat.le_of_ble_eq_true rfl) rfl q1522 dX6_tries_180 ?_
        refine z_iconst F (-1) dX6_tries_183 rfl ?_
        refine z_icmp_eq F (tgt := 247) dX6_tries_184 (by decide) (fun c_184 => ?_) (fun c_184 => ?_)
        · refine z_iconstB F true dX6_tries_247 rfl ?_
          refine z_goto F (tgt := 252) dX6_tries_248 (by decide) ?_
          refine z_istore F dX6_tries_252 (Nat.le_of_ble_eq_true rfl) ?_
          refine z_leq (L' := [_, _, _, _, _, _, _, _, _, _, _, _]) rfl ?_
          refine z_iload F dX6_tries_254 rfl ?_
          refine z_if_neB F (tgt := 260) dX6_tries_256 (by decide) (fun c_256 => ?_) (fun c_256 => ?_)
          · refine z_aload_n F dX6_tries_260 rfl ?_
            refine z_iload_n F dX6_tries_261 rfl ?_
            refine z_pmi F rfl 42 rfl (Nat.le_of_ble_eq_true rfl) rfl q1522 rfl rfl rfl dX6_tries_262 ?_
            refine z_weq (w' := [_, _]) rfl ?_
            refine z_aload_n F dX6_tries_265 rfl ?_
            refine z_iload F dX6_tries_266 rfl ?_
            refine z_pmi F rfl 39 rfl (Nat.le_of_ble_eq_true rfl) rfl q1519 rfl rfl rfl dX6_tries_268 ?_
            refine z_weq (w' := [_, _]) rfl ?_
            refine z_aload_n F dX6_tries_271 rfl ?_
            refine z_iload F dX6_tries_272 rfl ?_
            refine z_pmi F rfl 40 rfl (Nat.le_of_ble_eq_true rfl) rfl q1520 rfl rfl rfl dX6_tries_274 ?_
            refine z_weq (w' := [_, _]) rfl ?_
            refine z_aload_n F dX6_tries_277 rfl ?_
            refine z_iload_n F dX6_tries_278 rfl ?_
            refine z_pmi F rfl 41 rfl (Nat.le_of_ble_eq_true rfl) rfl q1521 rfl rfl rfl dX6_tries_279 ?_
            refine z_weq (w' := [_, _]) rfl ?_
            exact z_vret F E rfl dX6_tries_282 (by omega) (by omega) (⟨rfl, _, A1, rfl, (frm_upd (frm_upd (frm_upd (frm_upd frm.rf (by decide)) (by decide)) (by decide)) (by decide)), hA, by rw [hv1 (eq1.mp c_175)]; exact ⟨rfl, rfl, rfl, rfl, by omega, by omega, jc, hjc, rfl⟩⟩)
          · cases c_256
        · exact absurd hB0 c_184
      · exact z_vret F E rfl dX6_tries_178 (by omega) (by omega) (⟨rfl, F0, A1, rfl, frm.rf, hA, by rw [hv0 (fun z => c_175 (eq1.mpr z))]; exact hB0⟩)
    obtain ⟨b1_, b2_, b3_, b4_, q1, q2, j0, q3, rfl⟩ := hB
    have e2 := kyN_n f0 s0 j0 q3
    have p2 := pc32_le (nI j0)
    have no : sn = allB (a * b) → ¬ kyN (d - 1) (smD D (a * b)) (nI jc) < kyN f0 s0 (nI j0) → skC (lkF (skV kd a b (nI jc)) (nI jc) (some (nI j0, f0, s0))) F0 := fun z z2 => by
      rw [hv1 (eq1.mp z)]
      show skC (if _ then _ else _) F0
      rw [if_neg z2]
      exact ⟨b1_, b2_, b3_, b4_, q1, q2, j0, q3, rfl⟩
    have yes : sn = allB (a * b) → kyN (d - 1) (smD D (a * b)) (nI jc) < kyN f0 s0 (nI j0) → skC (lkF (skV kd a b (nI jc)) (nI jc) (some (nI j0, f0, s0))) (upd (upd (upd (upd F0 42 (nI jc)) 39 (nI (d - 1))) 40 (nI (smD D (a * b)))) 41 (nI (pc32 (nI jc)))) := fun z z2 => by
      rw [hv1 (eq1.mp z)]
      show skC (if _ then _ else _) _
      rw [if_pos z2]
      exact ⟨rfl, rfl, rfl, rfl, by omega, by omega, jc, hjc, rfl⟩
    have fr4 : ∀ v1 v2 v3 v4, frm [39, 40, 41, 42] F0 (upd (upd (upd (upd F0 42 v1) 39 v2) 40 v3) 41 v4) := fun v1 v2 v3 v4 => frm_upd (frm_upd (frm_upd (frm_upd frm.rf (by decide)) (by decide)) (by decide)) (by decide)
    refine z_iload F dX6_tries_168 rfl ?_
    refine z_iconst F (nI 1) dX6_tries_170 rfl ?_
    refine z_iload_n F dX6_tries_171 rfl ?_
    refine z_ishlB F dX6_tries_172 ?_
    refine z_iconst F (nI 1) dX6_tries_173 rfl ?_
    refine z_isub F dX6_tries_174 ?_
    refine z_icmp_eq F (tgt := 179) dX6_tries_175 (by decide) (fun c_175 => ?_) (fun c_175 => ?_)
    · refine z_aload_n F dX6_tries_179 rfl ?_
      refine z_mi F rfl 42 rfl (Nat.le_of_ble_eq_true rfl) rfl q1522 dX6_tries_180 ?_
      refine z_ieq (b1_) ?_
      refine z_iconst F (-1) dX6_tries_183 rfl ?_
      refine z_icmp_eq F (tgt := 247) dX6_tries_184 (by decide) (fun c_184 => ?_) (fun c_184 => ?_)
      · exact absurd c_184 (nI_ne q3)
      · refine z_iload F dX6_tries_187 rfl ?_
        refine z_aload_n F dX6_tries_189 rfl ?_
        refine z_mi F rfl 39 rfl (Nat.le_of_ble_eq_true rfl) rfl q1519 dX6_tries_190 ?_
        refine z_ieq (b2_) ?_
        refine z_icmp_ltN F (by omega) (by omega) (tgt := 247) dX6_tries_193 (by decide) (fun c_193 => ?_) (fun c_193 => ?_)
        · refine z_iconstB F true dX6_tries_247 rfl ?_
          refine z_goto F (tgt := 252) dX6_tries_248 (by decide) ?_
          refine z_istore F dX6_tries_252 (Nat.le_of_ble_eq_true rfl) ?_
          refine z_leq (L' := [_, _, _, _, _, _, _, _, _, _, _, _]) rfl ?_
          refine z_iload F dX6_tries_254 rfl ?_
          refine z_if_neB F (tgt := 260) dX6_tries_256 (by decide) (fun c_256 => ?_) (fun c_256 => ?_)
          · refine z_aload_n F dX6_tries_260 rfl ?_
            refine z_iload_n F dX6_tries_261 rfl ?_
            refine z_pmi F rfl 42 rfl (Nat.le_of_ble_eq_true rfl) rfl q1522 rfl rfl rfl dX6_tries_262 ?_
            refine z_weq (w' := [_, _]) rfl ?_
            refine z_aload_n F dX6_tries_265 rfl ?_
            refine z_iload F dX6_tries_266 rfl ?_
            refine z_pmi F rfl 39 rfl (Nat.le_of_ble_eq_true rfl) rfl q1519 rfl rfl rfl dX6_tries_268 ?_
            refine z_weq (w' := [_, _]) rfl ?_
            refine z_aload_n F dX6_tries_271 rfl ?_
            refine z_iload F dX6_tries_272 rfl ?_
            refine z_pmi F rfl 40 rfl (Nat.le_of_ble_eq_true rfl) rfl q1520 rfl rfl rfl dX6_tries_274 ?_
            refine z_weq (w' := [_, _]) rfl ?_
            refine z_aload_n F dX6_tries_277 rfl ?_
            refine z_iload_n F dX6_tries_278 rfl ?_
            refine z_pmi F rfl 41 rfl (Nat.le_of_ble_eq_true rfl) rfl q1521 rfl rfl rfl dX6_tries_279 ?_
            refine z_weq (w' := [_, _]) rfl ?_
            exact z_vret F E rfl dX6_tries_282 (by omega) (by omega) (⟨rfl, _, A1, rfl, fr4 _ _ _ _, hA, yes c_175 (by omega)⟩)
          · cases c_256
        · refine z_iload F dX6_tries_196 rfl ?_
          refine z_aload_n F dX6_tries_198 rfl ?_
          refine z_mi F rfl 39 rfl (Nat.le_of_ble_eq_true rfl) rfl q1519 dX6_tries_199 ?_
          refine z_ieq (b2_) ?_
          refine z_icmp_neN F (by omega) (by omega) (tgt := 251) dX6_tries_202 (by decide) (fun c_202 => ?_) (fun c_202 => ?_)
          · refine z_iconstB F false dX6_tries_251 rfl ?_
            refine z_istore F dX6_tries_252 (Nat.le_of_ble_eq_true rfl) ?_
            refine z_leq (L' := [_, _, _, _, _, _, _, _, _, _, _, _]) rfl ?_
            refine z_iload F dX6_tries_254 rfl ?_
            refine z_if_neB F (tgt := 260) dX6_tries_256 (by decide) (fun c_256 => ?_) (fun c_256 => ?_)
            · cases c_256
            · exact z_vret F E rfl dX6_tries_259 (by omega) (by omega) (⟨rfl, F0, A1, rfl, frm.rf, hA, no c_175 (by omega)⟩)
          · refine z_iload F dX6_tries_205 rfl ?_
            refine z_aload_n F dX6_tries_207 rfl ?_
            refine z_mi F rfl 40 rfl (Nat.le_of_ble_eq_true rfl) rfl q1520 dX6_tries_208 ?_
            refine z_ieq (b3_) ?_
            refine z_icmp_ltN F (by omega) (by omega) (tgt := 247) dX6_tries_211 (by decide) (fun c_211 => ?_) (fun c_211 => ?_)
            · refine z_iconstB F true dX6_tries_247 rfl ?_
              refine z_goto F (tgt := 252) dX6_tries_248 (by decide) ?_
              refine z_istore F dX6_tries_252 (Nat.le_of_ble_eq_true rfl) ?_
              refine z_leq (L' := [_, _, _, _, _, _, _, _, _, _, _, _]) rfl ?_
              refine z_iload F dX6_tries_254 rfl ?_
              refine z_if_neB F (tgt := 260) dX6_tries_256 (by decide) (fun c_256 => ?_) (fun c_256 => ?_)
              · refine z_aload_n F dX6_tries_260 rfl ?_
                refine z_iload_n F dX6_tries_261 rfl ?_
                refine z_pmi F rfl 42 rfl (Nat.le_of_ble_eq_true rfl) rfl q1522 rfl rfl rfl dX6_tries_262 ?_
                refine z_weq (w' := [_, _]) rfl ?_
                refine z_aload_n F dX6_tries_265 rfl ?_
                refine z_iload F dX6_tries_266 rfl ?_
                refine z_pmi F rfl 39 rfl (Nat.le_of_ble_eq_true rfl) rfl q1519 rfl rfl rfl dX6_tries_268 ?_
                refine z_weq (w' := [_, _]) rfl ?_
                refine z_aload_n F dX6_tries_271 rfl ?_
                refine z_iload F dX6_tries_272 rfl ?_
                refine z_pmi F rfl 40 rfl (Nat.le_of_ble_eq_true rfl) rfl q1520 rfl rfl rfl dX6_tries_274 ?_
                refine z_weq (w' := [_, _]) rfl ?_
                refine z_aload_n F dX6_tries_277 rfl ?_
                refine z_iload_n F dX6_tries_278 rfl ?_
                refine z_pmi F rfl 41 rfl (Nat.le_of_ble_eq_true rfl) rfl q1521 rfl rfl rfl dX6_tries_279 ?_
                refine z_weq (w' := [_, _]) rfl ?_
                exact z_vret F E rfl dX6_tries_282 (by omega) (by omega) (⟨rfl, _, A1, rfl, fr4 _ _ _ _, hA, yes c_175 (by omega)⟩)
              · cases c_256
            · refine z_iload F dX6_tries_214 rfl ?_
              refine z_aload_n F dX6_tries_216 rfl ?_
              refine z_mi F rfl 40 rfl (Nat.le_of_ble_eq_true rfl) rfl q1520 dX6_tries_217 ?_
              refine z_ieq (b3_) ?_
              refine z_icmp_neN F (by omega) (by omega) (tgt := 251) dX6_tries_220 (by decide) (fun c_220 => ?_) (fun c_220 => ?_)
              · refine z_iconstB F false dX6_tries_251 rfl ?_
                refine z_istore F dX6_tries_252 (Nat.le_of_ble_eq_true rfl) ?_
                refine z_leq (L' := [_, _, _, _, _, _, _, _, _, _, _, _]) rfl ?_
                refine z_iload F dX6_tries_254 rfl ?_
                refine z_if_neB F (tgt := 260) dX6_tries_256 (by decide) (fun c_256 => ?_) (fun c_256 => ?_)
                · cases c_256
                · exact z_vret F E rfl dX6_tries_259 (by omega) (by omega) (⟨rfl, F0, A1, rfl, frm.rf, hA, no c_175 (by omega)⟩)
              · refine z_iload_n F dX6_tries_223 rfl ?_
                refine z_aload_n F dX6_tries_224 rfl ?_
                refine z_mi F rfl 41 rfl (Nat.le_of_ble_eq_true rfl) rfl q1521 dX6_tries_225 ?_
                refine z_ieq (b4_) ?_
                refine z_icmp_ltN F (by omega) (by omega) (tgt := 247) dX6_tries_228 (by decide) (fun c_228 => ?_) (fun c_228 => ?_)
                · refine z_iconstB F true dX6_tries_247 rfl ?_
                  refine z_goto F (tgt := 252) dX6_tries_248 (by decide) ?_
                  refine z_istore F dX6_tries_252 (Nat.le_of_ble_eq_true rfl) ?_
                  refine z_leq (L' := [_, _, _, _, _, _, _, _, _, _, _, _]) rfl ?_
                  refine z_iload F dX6_tries_254 rfl ?_
                  refine z_if_neB F (tgt := 260) dX6_tries_256 (by decide) (fun c_256 => ?_) (fun c_256 => ?_)
                  · refine z_aload_n F dX6_tries_260 rfl ?_
                    refine z_iload_n F dX6_tries_261 rfl ?_
                    refine z_pmi F rfl 42 rfl (Nat.le_of_ble_eq_true rfl) rfl q1522 rfl rfl rfl dX6_tries_262 ?_
                    refine z_weq (w' := [_, _]) rfl ?_
                    refine z_aload_n F dX6_tries_265 rfl ?_
                    refine z_iload F dX6_tries_266 rfl ?_
                    refine z_pmi F rfl 39 rfl (Nat.le_of_ble_eq_true rfl) rfl q1519 rfl rfl rfl dX6_tries_268 ?_
                    refine z_weq (w' := [_, _]) rfl ?_
                    refine z_aload_n F dX6_tries_271 rfl ?_
                    refine z_iload F dX6_tries_272 rfl ?_
                    refine z_pmi F rfl 40 rfl (Nat.le_of_ble_eq_true rfl) rfl q1520 rfl rfl rfl dX6_tries_274 ?_
                    refine z_weq (w' := [_, _]) rfl ?_
                    refine z_aload_n F dX6_tries_277 rfl ?_
                    refine z_iload_n F dX6_tries_278 rfl ?_
                    refine z_pmi F rfl 41 rfl (Nat.le_of_ble_eq_true rfl) rfl q1521 rfl rfl rfl dX6_tries_279 ?_
                    refine z_weq (w' := [_, _]) rfl ?_
                    exact z_vret F E rfl dX6_tries_282 (by omega) (by omega) (⟨rfl, _, A1, rfl, fr4 _ _ _ _, hA, yes c_175 (by omega)⟩)
                  · cases c_256
                · refine z_iload_n F dX6_tries_231 rfl ?_
                  refine z_aload_n F dX6_tries_232 rfl ?_
                  refine z_mi F rfl 41 rfl (Nat.le_of_ble_eq_true rfl) rfl q1521 dX6_tries_233 ?_
                  refine z_ieq (b4_) ?_
                  refine z_icmp_neN F (by omega) (by omega) (tgt := 251) dX6_tries_236 (by decide) (fun c_236 => ?_) (fun c_236 => ?_)
                  · refine z_iconstB F false dX6_tries_251 rfl ?_
                    refine z_istore F dX6_tries_252 (Nat.le_of_ble_eq_true rfl) ?_
                    refine z_leq (L' := [_, _, _, _, _, _, _, _, _, _, _, _]) rfl ?_
                    refine z_iload F dX6_tries_254 rfl ?_
                    refine z_if_neB F (tgt := 260) dX6_tries_256 (by decide) (fun c_256 => ?_) (fun c_256 => ?_)
                    · cases c_256
                    · exact z_vret F E rfl dX6_tries_259 (by omega) (by omega) (⟨rfl, F0, A1, rfl, frm.rf, hA, no c_175 (by omega)⟩)
                  · refine z_iload_n F dX6_tries_239 rfl ?_
                    refine z_aload_n F dX6_tries_240 rfl ?_
                    refine z_mi F rfl 42 rfl (Nat.le_of_ble_eq_true rfl) rfl q1522 dX6_tries_241 ?_
                    refine z_ieq (b1_) ?_
                    refine z_icmp_geN F (by omega) (by omega) (tgt := 251) dX6_tries_244 (by decide) (fun c_244 => ?_) (fun c_244 => ?_)
                    · refine z_iconstB F false dX6_tries_251 rfl ?_
                      refine z_istore F dX6_tries_252 (Nat.le_of_ble_eq_true rfl) ?_
                      refine z_leq (L' := [_, _, _, _, _, _, _, _, _, _, _, _]) rfl ?_
                      refine z_iload F dX6_tries_254 rfl ?_
                      refine z_if_neB F (tgt := 260) dX6_tries_256 (by decide) (fun c_256 => ?_) (fun c_256 => ?_)
                      · cases c_256
                      · exact z_vret F E rfl dX6_tries_259 (by omega) (by omega) (⟨rfl, F0, A1, rfl, frm.rf, hA, no c_175 (by omega)⟩)
                    · refine z_iconstB F true dX6_tries_247 rfl ?_
                      refine z_goto F (tgt := 252) dX6_tries_248 (by decide) ?_
                      refine z_istore F dX6_tries_252 (Nat.le_of_ble_eq_true rfl) ?_
                      refine z_leq (L' := [_, _, _, _, _, _, _, _, _, _, _, _]) rfl ?_
                      refine z_iload F dX6_tries_254 rfl ?_
                      refine z_if_neB F (tgt := 260) dX6_tries_256 (by decide) (fun c_256 => ?_) (fun c_256 => ?_)
                      · refine z_aload_n F dX6_tries_260 rfl ?_
                        refine z_iload_n F dX6_tries_261 rfl ?_
                        refine z_pmi F rfl 42 rfl (Nat.le_of_ble_eq_true rfl) rfl q1522 rfl rfl rfl dX6_tries_262 ?_
                        refine z_weq (w' := [_, _]) rfl ?_
                        refine z_aload_n F dX6_tries_265 rfl ?_
                        refine z_iload F dX6_tries_266 rfl ?_
                        refine z_pmi F rfl 39 rfl (Nat.le_of_ble_eq_true rfl) rfl q1519 rfl rfl rfl dX6_tries_268 ?_
                        refine z_weq (w' := [_, _]) rfl ?_
                        refine z_aload_n F dX6_tries_271 rfl ?_
                        refine z_iload F dX6_tries_272 rfl ?_
                        refine z_pmi F rfl 40 rfl (Nat.le_of_ble_eq_true rfl) rfl q1520 rfl rfl rfl dX6_tries_274 ?_
                        refine z_weq (w' := [_, _]) rfl ?_
                        refine z_aload_n F dX6_tries_277 rfl ?_
                        refine z_iload_n F dX6_tries_278 rfl ?_
                        refine z_pmi F rfl 41 rfl (Nat.le_of_ble_eq_true rfl) rfl q1521 rfl rfl rfl dX6_tries_279 ?_
                        refine z_weq (w' := [_, _]) rfl ?_
                        exact z_vret F E rfl dX6_tries_282 (by omega) (by omega) (⟨rfl, _, A1, rfl, fr4 _ _ _ _, hA, yes c_175 (by omega)⟩)
                      · cases c_256
    · exact z_vret F E rfl dX6_tries_178 (by omega) (by omega) (⟨rfl, F0, A1, rfl, frm.rf, hA, by rw [hv0 (fun z => c_175 (eq1.mpr z))]; exact ⟨b1_, b2_, b3_, b4_, q1, q2, j0, q3, rfl⟩⟩)
  -- one x of a row
  have mlp : ∀ (d sm n : Nat) (mv : Nat → Nat) (sn rim : Int32) (A1 : Nat → Nat → Int32) (x : Nat), frm [44] A A1 → mvO (nI jc) (a * b) n mv (A1 44) → x < a * b → (∀ w, wdB kd a b rim w mv n (x + 1) 0 → Z X [some (zr 1 0), some (zi (nI jc)), some (zi (nI (a * b))), some (zi (nI n)), some (zi sn), some (zi rim), some (zi (nI d)), some (zi (nI sm)), some (zi (nI d)), some (zi w), some (zi (nI (x + 1))), none] [] [zH, zG F0 G A1 B] 0 0 83) →
      ∀ (u m : Nat) (w : Int32), n - m < u → m ≤ n → wdB kd a b rim w mv n x m → Z X [some (zr 1 0), some (zi (nI jc)), some (zi (nI (a * b))), some (zi (nI n)), some (zi sn), some (zi rim), some (zi (nI d)), some (zi (nI sm)), some (zi (nI d)), some (zi w), some (zi (nI x)), some (zi (nI m))] [] [zH, zG F0 G A1 B] 0 0 92 := by
    intro d sm n mv sn rim A1 x hA hmv hx kk u
    have hn24 : n ≤ 24 := by rw [hmv.1]; exact Nat.le_trans (fb_ct_le _ _) h4
    induction u with
    | zero => intro m w hm; omega
    | succ u ih =>
      intro m w hm hmn hw
      have gm : m < n → A1 44 m = nI (mv m) := fun z => (hmv.2.1 m z).1
      have gm2 : m < n → mv m < a * b := fun z => (hmv.2.1 m z).2.2.1
      have hl := gth_lt (x := x) (s := mv m) h
      have gs : m < n → A1 43 (24 * mv m + x) = nI (gth kd a b x (mv m)) := fun z => by rw [hA.at 43 rfl]; exact hst _ x (gm2 z) hx
      have out : n ≤ m ∨ bt rim x = false → Z X [some (zr 1 0), some (zi (nI jc)), some (zi (nI (a * b))), some (zi (nI n)), some (zi sn), some (zi rim), some (zi (nI d)), some (zi (nI sm)), some (zi (nI d)), some (zi w), some (zi (nI (x + 1))), none] [] [zH, zG F0 G A1 B] 0 0 83 := fun z => kk w (fun t ht => (hw t ht).trans (wdP_up hmn z).symm)
      refine z_iload F dX6_tries_92 rfl ?_
      refine z_iload_n F dX6_tries_94 rfl ?_
      refine z_icmp_geN F (by omega) (by omega) (tgt := 140) dX6_tries_95 (by decide) (fun c_95 => ?_) (fun c_95 => ?_)
      · refine z_iincN F 1 dX6_tries_140 rfl rfl ?_
        refine z_leq (L' := [_, _, _, _, _, _, _, _, _, _, _, _]) rfl ?_
        refine z_goto F (tgt := 83) dX6_tries_143 (by decide) ?_
        refine z_loc _ ?_ (out (Or.inl (by omega)))
        exact ⟨rfl, rfl, rfl, rfl, rfl, rfl, rfl, rfl, rfl, rfl, rfl, trivial⟩
      · have gm := gm (by omega)
        have gm2 := gm2 (by omega)
        have gs := gs (by omega)
        refine z_iload F dX6_tries_98 rfl ?_
        refine z_iload F dX6_tries_100 rfl ?_
        refine z_ishr F dX6_tries_102 ?_
        refine z_iconst F (nI 1) dX6_tries_103 rfl ?_
        refine z_iandB F (by omega) dX6_tries_104 ?_
        refine z_iconst F (nI 1) dX6_tries_105 rfl ?_
        refine z_icmp_neB F (tgt := 140) dX6_tries_106 (by decide) (fun c_106 => ?_) (fun c_106 => ?_)
        · refine z_iincN F 1 dX6_tries_140 rfl rfl ?_
          refine z_leq (L' := [_, _, _, _, _, _, _, _, _, _, _, _]) rfl ?_
          refine z_goto F (tgt := 83) dX6_tries_143 (by decide) ?_
          refine z_loc _ ?_ (out (Or.inr c_106))
          exact ⟨rfl, rfl, rfl, rfl, rfl, rfl, rfl, rfl, rfl, rfl, rfl, trivial⟩
        · refine z_iload F dX6_tries_109 rfl ?_
          refine z_iconst F (nI 1) dX6_tries_111 rfl ?_
          refine z_aload_n F dX6_tries_112 rfl ?_
          refine z_ma F rfl 43 rfl (Nat.le_of_ble_eq_true rfl) rfl q1523 dX6_tries_113 ?_
          refine z_bipush F (nI 24) dX6_tries_116 rfl ?_
          refine z_aload_n F dX6_tries_118 rfl ?_
          refine z_ma F rfl 44 rfl (Nat.le_of_ble_eq_true rfl) rfl q1524 dX6_tries_119 ?_
          refine z_iload F dX6_tries_122 rfl ?_
          refine z_ialdGN F rfl rfl (Nat.le_of_ble_eq_true rfl) (by omega) rfl dX6_tries_124 ?_
          refine z_ieq (gm) ?_
          refine z_imulN F dX6_tries_125 ?_
          refine z_iload F dX6_tries_126 rfl ?_
          refine z_iaddN F dX6_tries_128 ?_
          refine z_ialdGN F rfl rfl (Nat.le_of_ble_eq_true rfl) (by omega) rfl dX6_tries_129 ?_
          refine z_ieq (gs) ?_
          refine z_ishl F dX6_tries_130 ?_
          refine z_ior F dX6_tries_131 ?_
          refine z_istore F dX6_tries_132 (Nat.le_of_ble_eq_true rfl) ?_
          refine z_leq (L' := [_, _, _, _, _, _, _, _, _, _, _, _]) rfl ?_
          refine z_iincN F 1 dX6_tries_134 rfl rfl ?_
          refine z_leq (L' := [_, _, _, _, _, _, _, _, _, _, _, _]) rfl ?_
          refine z_goto F (tgt := 92) dX6_tries_137 (by decide) ?_
          exact ih (m + 1) _ (by omega) (by omega) (wdB_put hw c_106 (by omega))
  have xlp : ∀ (d sm n : Nat) (mv : Nat → Nat) (sn rim : Int32) (A1 : Nat → Nat → Int32), frm [44] A A1 → mvO (nI jc) (a * b) n mv (A1 44) → (∀ w, wdB kd a b rim w mv n (a * b) 0 → Z X [some (zr 1 0), some (zi (nI jc)), some (zi (nI (a * b))), some (zi (nI n)), some (zi sn), some (zi rim), some (zi (nI d)), some (zi (nI sm)), some (zi (nI d)), some (zi w), none, none] [] [zH, zG F0 G A1 B] 0 0 146) →
      ∀ (u x : Nat) (w : Int32), a * b - x < u → x ≤ a * b → wdB kd a b rim w mv n x 0 → Z X [some (zr 1 0), some (zi (nI jc)), some (zi (nI (a * b))), some (zi (nI n)), some (zi sn), some (zi rim), some (zi (nI d)), some (zi (nI sm)), some (zi (nI d)), some (zi w), some (zi (nI x)), none] [] [zH, zG F0 G A1 B] 0 0 83 := by
    intro d sm n mv sn rim A1 hA hmv kk u
    induction u with
    | zero => intro x w hm; omega
    | succ u ih =>
      intro x w hm hx hw
      refine z_iload F dX6_tries_83 rfl ?_
      refine z_iload_n F dX6_tries_85 rfl ?_
      refine z_icmp_geN F (by omega) (by omega) (tgt := 146) dX6_tries_86 (by decide) (fun c_86 => ?_) (fun c_86 => ?_)
      · rw [show x = a * b by omega] at hw
        refine z_loc _ ?_ (kk w hw)
        exact ⟨rfl, rfl, rfl, rfl, rfl, rfl, rfl, rfl, rfl, rfl, trivial⟩
      · refine z_iconst F (nI 0) dX6_tries_89 rfl ?_
        refine z_istore F dX6_tries_90 (Nat.le_of_ble_eq_true rfl) ?_
        refine z_leq (L' := [_, _, _, _, _, _, _, _, _, _, _, _]) rfl ?_
        exact mlp d sm n mv sn rim A1 x hA hmv (by omega) (fun w2 q => ih (x + 1) w2 (by omega) (by omega) q) (n + 1) 0 w (by omega) (by omega) hw
  -- rows
  have top : ∀ (n : Nat) (mv : Nat → Nat) (A1 : Nat → Nat → Int32), frm [44] A A1 → mvO (nI jc) (a * b) n mv (A1 44) → ∀ (u d : Nat) (D : Nat → Option Nat) (sn rim : Int32), 25 - d < u → d ≤ 24 → bLv (skE kd a b (nI jc)) 0 d D → (∀ t k, D t = some k → t < a * b ∧ k ≤ d) → (∀ t, t < 32 → bt sn t = (D t).isSome) → (∀ t, t < 32 → (bt rim t = true ↔ D t = some d)) → (¬ rim = 0 → d + 1 ≤ cnS D (a * b)) → (d = 0 → ¬ rim = 0) → (0 < d → ∃ t, D t = some (d - 1)) → Z X [some (zr 1 0), some (zi (nI jc)), some (zi (nI (a * b))), some (zi (nI n)), some (zi sn), some (zi rim), some (zi (nI d)), some (zi (nI (smL d D (a * b)))), some (zi (nI (d - 1))), none, none, none] [] [zH, zG F0 G A1 B] 0 0 55 := by
    intro n mv A1 hA hmv u
    have hnp : n = pc32 (nI jc) := hmv.1.trans hpc
    induction u with
    | zero => intro d D sn rim hm; omega
    | succ u ih =>
      intro d D sn rim hm hd24 hb hlt hsn hrim hcn hd0 hex
      have hcn24 : cnS D (a * b) ≤ a * b := fb_ct_le _ _
      have hr0 : rim = 0 → ∀ t, D t ≠ some d := fun z t ht => by
        have h1 := (hrim t (by have := (hlt t d ht).1; omega)).mpr ht
        rw [z, show bt (0 : Int32) t = false from b_0 t] at h1; cases h1
      have back : ¬ rim = 0 → ∀ w, wdB kd a b rim w mv n (a * b) 0 → Z X [some (zr 1 0), some (zi (nI jc)), some (zi (nI (a * b))), some (zi (nI n)), some (zi sn), some (zi rim), some (zi (nI d)), some (zi (nI (smL d D (a * b) + d * pc32 rim))), some (zi (nI d)), some (zi w), none, none] [] [zH, zG F0 G A1 B] 0 0 146 := by
        intro hr w hw
        have r1 : ∀ t, bt (w &&& (sn ^^^ (-1))) t = true ↔ D t = none ∧ ∃ p, D p = some d ∧ skE kd a b (nI jc) p t := fun t => by
          by_cases ht : t < 32
          · rw [b_and, bt_not _ ht, hsn t ht, Bool.and_eq_true, hw t ht, Bool.not_eq_true', Option.isSome_eq_false_iff, Option.isNone_iff_eq_none]
            constructor
            · rintro ⟨z | ⟨j, z, _⟩, z2⟩
              · obtain ⟨x', j, x1, j1, x2, x3⟩ := z
                obtain ⟨_, q2, q3, q4⟩ := hmv.2.1 j j1
                exact ⟨z2, x', (hrim x' (by omega)).mp x2, by rw [x3]; exact gth_lt h, mv j, q3, q4, x3⟩
              · omega
            · rintro ⟨z2, p, p1, p2, s, s1, s2, s3⟩
              obtain ⟨j, j1, j2⟩ := hmv.2.2 s (hc s s2).1 s1 s2
              have hp := (hlt p d p1).1
              exact ⟨Or.inl ⟨p, j, hp, j1, (hrim p (by omega)).mpr p1, by rw [j2]; exact s3⟩, z2⟩
          · constructor
            · intro z; rw [bt_hi (by omega)] at z; cases z
            · rintro ⟨_, p, _, p2, _⟩; omega
        obtain ⟨hb2, hmx2⟩ := hb.step (fun t k hk => (hlt t k hk).2) r1
        have g1 : ∀ t, (if bt (w &&& (sn ^^^ (-1))) t = true then some (d + 1) else D t) = some (d + 1) ↔ bt (w &&& (sn ^^^ (-1))) t = true := fun t => by
          by_cases q : bt (w &&& (sn ^^^ (-1))) t = true
          · rw [if_pos q]; exact ⟨fun _ => q, fun _ => rfl⟩
          · rw [if_neg q]
            exact ⟨fun z => absurd (hlt t _ z).2 (by omega), fun z => absurd z q⟩
        have hlt2 : ∀ t k, (if bt (w &&& (sn ^^^ (-1))) t = true then some (d + 1) else D t) = some k → t < a * b ∧ k ≤ d + 1 := fun t k hk => by
          refine ⟨?_, hmx2 t k hk⟩
          by_cases q : bt (w &&& (sn ^^^ (-1))) t = true
          · obtain ⟨_, p, _, p2, _⟩ := (r1 t).mp q; exact p2
          · rw [if_neg q] at hk; exact (hlt t k hk).1
        have hsn2 : ∀ t, t < 32 → bt (sn ||| (w &&& (sn ^^^ (-1)))) t = (if bt (w &&& (sn ^^^ (-1))) t = true then some (d + 1) else D t).isSome := fun t ht => by
          rw [b_or, hsn t ht]
          by_cases q : bt (w &&& (sn ^^^ (-1))) t = true
          · rw [if_pos q, q]; simp
          · rw [if_neg q, Bool.not_eq_true _ |>.mp q]; simp
        have hsm : smL (d + 1) (fun t => if bt (w &&& (sn ^^^ (-1))) t = true then some (d + 1) else D t) (a * b) = smL d D (a * b) + d * pc32 rim := by
          have e1 : pc32 rim = fb_ct (bt rim) (a * b) := by
            unfold pc32
            have e1 := fb_ct_split (bt rim) (a * b) (32 - a * b)
            rw [show a * b + (32 - a * b) = 32 by omega] at e1
            have e2 : fb_ct (fun k => bt rim (a * b + k)) (32 - a * b) = 0 := fb_ct_zero.mpr (fun k hk => by
              cases e : bt rim (a * b + k) with
              | false => rfl
              | true => have := (hlt _ _ ((hrim _ (by omega)).mp e)).1; omega)
            rw [e1, e2, Nat.add_zero]
          rw [e1]
          refine smL_step (a * b) (fun t ht => ?_)
          by_cases q : bt (w &&& (sn ^^^ (-1))) t = true
          · obtain ⟨h1, _⟩ := (r1 t).mp q
            have h2 : ¬ bt rim t = true := fun z => by rw [(hrim t (by omega)).mp z] at h1; cases h1
            rw [if_neg h2, h1]
            show lvv (d + 1) (if _ then _ else _) = _
            rw [if_pos q]
            show (if d + 1 < d + 1 then d + 1 else 0) = 0 + 0
            rw [if_neg (by omega)]
          · show lvv (d + 1) (if _ then _ else _) = _
            rw [if_neg q]
            cases e : D t with
            | none =>
              have h2 : ¬ bt rim t = true := fun z => by rw [(hrim t (by omega)).mp z] at e; cases e
              rw [if_neg h2]; rfl
            | some k =>
              have h3 := (hlt t k e).2
              show (if k < d + 1 then k else 0) = (if k < d then k else 0) + _
              rw [if_pos (by omega)]
              by_cases z : k = d
              · rw [if_neg (by omega), if_pos ((hrim t (by omega)).mpr (by rw [e, z])), z, Nat.zero_add]
              · have h2 : ¬ bt rim t = true := fun y => by
                  have := (hrim t (by omega)).mp y
                  rw [e] at this; cases this; exact z rfl
                rw [if_pos (by omega), if_neg h2, Nat.add_zero]
        have hcn2 : ¬ (w &&& (sn ^^^ (-1))) = 0 → d + 1 + 1 ≤ cnS (fun t => if bt (w &&& (sn ^^^ (-1))) t = true then some (d + 1) else D t) (a * b) := fun z => by
          obtain ⟨t0, t1, t2, _⟩ := exists_low z
          have := cnS_up (D := D) (D' := fun t => if bt (w &&& (sn ^^^ (-1))) t = true then some (d + 1) else D t) (n := a * b) (t := t0) (hlt2 t0 (d + 1) ((g1 t0).mpr t2)).1 ((r1 t0).mp t2).1 (by show (if _ then _ else _ : Option Nat).isSome = true; rw [if_pos t2]; rfl) (fun t ht => by
            show (if _ then _ else _ : Option Nat).isSome = true
            split
            · rfl
            · exact ht)
          have := hcn hr
          omega
        have hex2 : ∃ t, (if bt (w &&& (sn ^^^ (-1))) t = true then some (d + 1) else D t) = some d := by
          obtain ⟨t0, t1, t2, _⟩ := exists_low hr
          have h1 := (hrim t0 t1).mp t2
          refine ⟨t0, ?_⟩
          rw [if_neg (fun z => by rw [((r1 t0).mp z).1] at h1; cases h1)]
          exact h1
        have hcnr := hcn hr
        have ih2 := ih (d + 1) (fun t => if bt (w &&& (sn ^^^ (-1))) t = true then some (d + 1) else D t) (sn ||| (w &&& (sn ^^^ (-1)))) (w &&& (sn ^^^ (-1))) (by omega) (by omega) hb2 hlt2 hsn2 (fun t _ => (g1 t).symm) hcn2 (fun z => absurd z (by omega)) (fun _ => hex2)
        rw [hsm] at ih2
        refine z_iload F dX6_tries_146 rfl ?_
        refine z_iload F dX6_tries_148 rfl ?_
        refine z_iconst F (-1) dX6_tries_150 rfl ?_
        refine z_ixor F dX6_tries_151 ?_
        refine z_iand F dX6_tries_152 ?_
        refine z_istore F dX6_tries_153 (Nat.le_of_ble_eq_true rfl) ?_
        refine z_leq (L' := [_, _, _, _, _, _, _, _, _, _, _, _]) rfl ?_
        refine z_iload F dX6_tries_155 rfl ?_
        refine z_iload F dX6_tries_157 rfl ?_
        refine z_ior F dX6_tries_159 ?_
        refine z_istore F dX6_tries_160 (Nat.le_of_ble_eq_true rfl) ?_
        refine z_leq (L' := [_, _, _, _, _, _, _, _, _, _, _, _]) rfl ?_
        refine z_iincN F 1 dX6_tries_162 rfl rfl ?_
        refine z_leq (L' := [_, _, _, _, _, _, _, _, _, _, _, _]) rfl ?_
        refine z_goto F (tgt := 55) dX6_tries_165 (by decide) ?_
        refine z_loc _ ?_ ih2
        exact ⟨rfl, rfl, rfl, rfl, rfl, rfl, rfl, rfl, rfl, trivial⟩
      refine z_iload F dX6_tries_55 rfl ?_
      refine z_if_eq F (tgt := 168) dX6_tries_57 (by decide) (fun c_57 => ?_) (fun c_57 => ?_)
      · have hd1 : 0 < d := Nat.pos_of_ne_zero (fun z => hd0 z c_57)
        rw [hnp]
        have f1 := fin d D sn rim none none none A1 hA hd1 hd24 (fun t => hb.end_ (hr0 c_57) t) (fun t k hk => ⟨(hlt t k hk).1, Nat.lt_of_le_of_ne (hlt t k hk).2 (fun z => hr0 c_57 t (by rw [hk, z]))⟩) hsn (hex hd1)
        refine z_loc _ ?_ f1
        exact ⟨rfl, rfl, rfl, rfl, rfl, rfl, rfl, trivial⟩
      · refine z_iload F dX6_tries_60 rfl ?_
        refine z_istore F dX6_tries_62 (Nat.le_of_ble_eq_true rfl) ?_
        refine z_leq (L' := [_, _, _, _, _, _, _, _, _, _, _, _]) rfl ?_
        refine z_iload F dX6_tries_64 rfl ?_
        refine z_iload F dX6_tries_66 rfl ?_
        refine z_iload F dX6_tries_68 rfl ?_
        refine z_callS F (c_bits rim) 1 rfl (lw_S q1752 q1753 q117 q1754) (by decide +kernel) ⟨Nat.le_of_ble_eq_true rfl, Nat.le_of_ble_eq_true rfl⟩ ⟨by omega, by omega⟩ [0] 2 ⟨rfl, rfl, rfl, ⟨Or.inl rfl, trivial⟩⟩ (fun h => nomatch h) (Nat.le_of_ble_eq_true rfl) ⟨⟨Or.inr trivial, Or.inr trivial, trivial⟩, rfl, rfl, rfl, Nat.le_of_ble_eq_true rfl⟩ rfl rfl dX6_tries_70 (fun r_70 w_70 hp => ?_) (fun _ _ h => h.elim)
        obtain ⟨rfl, rfl⟩ := hp
        refine z_weq (w' := [zH, zG _ _ _ _]) rfl ?_
        refine z_seq (S' := zi _ :: _) rfl ?_
        refine z_imulN F dX6_tries_73 ?_
        refine z_iaddN F dX6_tries_74 ?_
        refine z_istore F dX6_tries_75 (Nat.le_of_ble_eq_true rfl) ?_
        refine z_leq (L' := [_, _, _, _, _, _, _, _, _, _, _, _]) rfl ?_
        refine z_iconst F (nI 0) dX6_tries_77 rfl ?_
        refine z_istore F dX6_tries_78 (Nat.le_of_ble_eq_true rfl) ?_
        refine z_leq (L' := [_, _, _, _, _, _, _, _, _, _, _, _]) rfl ?_
        refine z_iconst F (nI 0) dX6_tries_80 rfl ?_
        refine z_istore F dX6_tries_81 (Nat.le_of_ble_eq_true rfl) ?_
        refine z_leq (L' := [_, _, _, _, _, _, _, _, _, _, _, _]) rfl ?_
        exact xlp d _ n mv sn rim A1 hA hmv (back c_57) (a * b + 1) 0 (nI 0) (by omega) (by omega) (fun t ht => by
          rw [show bt (nI 0) t = false from b_0 t]
          exact ⟨fun z => (by cases z), fun z => Or.elim z (fun ⟨_, _, z, _⟩ => (by omega)) (fun ⟨_, z, _⟩ => (by omega))⟩)
  have first : ∀ (u m n : Nat) (mv : Nat → Nat) (A1 : Nat → Nat → Int32), a * b - m < u → 1 ≤ m → m ≤ a * b → frm [44] A A1 → mvO (nI jc) m n mv (A1 44) → Z X [some (zr 1 0), some (zi (nI jc)), some (zi (nI (a * b))), some (zi (nI n)), some (zi (nI m)), none, none, none, none, none, none, none] [] [zH, zG F0 G A1 B] 0 0 5 := by
    intro u
    induction u with
    | zero => intro m n mv A1 hm; omega
    | succ u ih =>
      intro m n mv A1 hm h1 hma hA hmv
      have hn24 : n ≤ m := by rw [hmv.1]; exact fb_ct_le _ _
      refine z_iload F dX6_tries_5 rfl ?_
      refine z_iload_n F dX6_tries_7 rfl ?_
      refine z_icmp_geN F (by omega) (by omega) (tgt := 40) dX6_tries_8 (by decide) (fun c_8 => ?_) (fun c_8 => ?_)
      · refine z_iconst F (nI 1) dX6_tries_40 rfl ?_
        refine z_istore F dX6_tries_41 (Nat.le_of_ble_eq_true rfl) ?_
        refine z_leq (L' := [_, _, _, _, _, _, _, _, _, _, _, _]) rfl ?_
        refine z_iconst F (nI 1) dX6_tries_43 rfl ?_
        refine z_istore F dX6_tries_44 (Nat.le_of_ble_eq_true rfl) ?_
        refine z_leq (L' := [_, _, _, _, _, _, _, _, _, _, _, _]) rfl ?_
        refine z_iconst F (nI 0) dX6_tries_46 rfl ?_
        refine z_istore F dX6_tries_47 (Nat.le_of_ble_eq_true rfl) ?_
        refine z_leq (L' := [_, _, _, _, _, _, _, _, _, _, _, _]) rfl ?_
        refine z_iconst F (nI 0) dX6_tries_49 rfl ?_
        refine z_istore F dX6_tries_50 (Nat.le_of_ble_eq_true rfl) ?_
        refine z_leq (L' := [_, _, _, _, _, _, _, _, _, _, _, _]) rfl ?_
        refine z_iconst F (nI 0) dX6_tries_52 rfl ?_
        refine z_istore F dX6_tries_53 (Nat.le_of_ble_eq_true rfl) ?_
        refine z_leq (L' := [_, _, _, _, _, _, _, _, _, _, _, _]) rfl ?_
        have e : m = a * b := by omega
        subst e
        have l0 := lkA_0 h0 (fun _ => 0) (fun _ => 0)
        have t1 := top n mv A1 hA hmv 26 0 (fun t => if t = 0 then some 0 else none) (nI 1) (nI 1) (by omega) (by omega) (bLv_0 _ 0) (fun t k z => ⟨(l0.2.1 t k z).1, by
          replace z : (if t = 0 then some 0 else none : Option Nat) = some k := z
          by_cases q : t = 0
          · rw [if_pos q] at z; cases z; omega
          · rw [if_neg q] at z; cases z⟩) l0.1 (fun t ht => by
          rw [l0.1 t ht]
          show (if t = 0 then some 0 else none : Option Nat).isSome = true ↔ (if t = 0 then some 0 else none : Option Nat) = some 0
          by_cases q : t = 0
          · rw [if_pos q]; exact ⟨fun _ => rfl, fun _ => rfl⟩
          · rw [if_neg q]; exact ⟨fun z => (by cases z), fun z => (by cases z)⟩) (fun _ => fb_ct_pos.mpr ⟨0, h0, rfl⟩) (fun _ => by decide) (fun z => absurd z (by omega))
        rw [smL_0] at t1
        refine z_loc _ ?_ t1
        exact ⟨rfl, rfl, rfl, rfl, rfl, rfl, rfl, rfl, rfl, trivial⟩
      · refine z_iload_n F dX6_tries_11 rfl ?_
        refine z_iload F dX6_tries_12 rfl ?_
        refine z_ishr F dX6_tries_14 ?_
        refine z_iconst F (nI 1) dX6_tries_15 rfl ?_
        refine z_iandB F (by omega) dX6_tries_16 ?_
        refine z_if_neB F (tgt := 23) dX6_tries_17 (by decide) (fun c_17 => ?_) (fun c_17 => ?_)
        · refine z_aload_n F dX6_tries_23 rfl ?_
          refine z_ma F rfl 44 rfl (Nat.le_of_ble_eq_true rfl) rfl q1524 dX6_tries_24 ?_
          refine z_iload_n F dX6_tries_27 rfl ?_
          refine z_iload F dX6_tries_28 rfl ?_
          refine z_iastGN F rfl rfl (Nat.le_of_ble_eq_true rfl) (by omega) dX6_tries_30 ?_
          refine z_weq (w' := [_, _]) rfl ?_
          refine z_iincN F 1 dX6_tries_31 rfl rfl ?_
          refine z_leq (L' := [_, _, _, _, _, _, _, _, _, _, _, _]) rfl ?_
          refine z_iincN F 1 dX6_tries_34 rfl rfl ?_
          refine z_leq (L' := [_, _, _, _, _, _, _, _, _, _, _, _]) rfl ?_
          refine z_goto F (tgt := 5) dX6_tries_37 (by decide) ?_
          exact ih (m + 1) (n + 1) _ _ (by omega) (by omega) (by omega) (frm_zup hA (by decide)) (mvO_put hmv h1 c_17)
        · refine z_goto F (tgt := 34) dX6_tries_20 (by decide) ?_
          refine z_iincN F 1 dX6_tries_34 rfl rfl ?_
          refine z_leq (L' := [_, _, _, _, _, _, _, _, _, _, _, _]) rfl ?_
          refine z_goto F (tgt := 5) dX6_tries_37 (by decide) ?_
          exact ih (m + 1) n mv A1 (by omega) (by omega) (by omega) hA (mvO_skip hmv c_17)
  refine z_iconst F (nI 0) dX6_tries_0 rfl ?_
  refine z_istore_n F dX6_tries_1 (Nat.le_of_ble_eq_true rfl) ?_
  refine z_leq (L' := [_, _, _, _, _, _, _, _, _, _, _, _]) rfl ?_
  refine z_iconst F (nI 1) dX6_tries_2 rfl ?_
  refine z_istore F dX6_tries_3 (Nat.le_of_ble_eq_true rfl) ?_
  refine z_leq (L' := [_, _, _, _, _, _, _, _, _, _, _, _]) rfl ?_
  exact first (a * b + 1) 1 0 (fun _ => 0) A (by omega) (by omega) (by omega) frm.rf ⟨by rw [fb_ct_succ]; rfl, fun j hj => absurd hj (by omega), fun s s1 s2 => absurd s2 (by omega)⟩
end C9e
