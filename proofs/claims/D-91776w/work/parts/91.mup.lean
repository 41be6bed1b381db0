/-! upward: the reference -/
section C91
def uq (n : Nat) (f : Nat → Int32) (r a b : Nat) : Bool := decide (dN n f r b < dN n f r a) || (decide (dN n f r b = dN n f r a) && decide (b < a))
theorem uq_t {n : Nat} {f : Nat → Int32} {r a b : Nat} (h : dN n f r b < dN n f r a ∨ dN n f r b = dN n f r a ∧ b < a) : uq n f r a b = true := by
  simp only [uq, Bool.or_eq_true, Bool.and_eq_true, decide_eq_true_eq]; exact h
theorem uq_f {n : Nat} {f : Nat → Int32} {r a b : Nat} (h : ¬ (dN n f r b < dN n f r a ∨ dN n f r b = dN n f r a ∧ b < a)) : uq n f r a b = false := by
  rw [← Bool.not_eq_true]
  simp only [uq, Bool.or_eq_true, Bool.and_eq_true, decide_eq_true_eq]; exact h
def upE (n : Nat) (f : Nat → Int32) (r p t : Nat) : Prop := t / 2 < n ∧ bt (f (p / 2)) (t / 2) = true ∧ t % 2 = (if uq n f r (p / 2) (t / 2) = true then 0 else 1) ∧ ¬ (p % 2 = 1 ∧ uq n f r (p / 2) (t / 2) = true)
abbrev sT (k : Nat) : Nat := 2 * (k % 24) + k / 24
def nno (D : Nat → Option Nat) : Nat := fb_ct (fun t => (D t).isNone) 48
theorem nno_put {D : Nat → Option Nat} {t v : Nat} (ht : t < 48) (h : D t = none) : nno (oput D t v) + 1 = nno D := by
  have e := fb_ct_upd (fun t => (D t).isNone) false ht
  have e2 : nno (oput D t v) = fb_ct (fun k => if k = t then false else (D k).isNone) 48 := fb_ct_cong fun k _ => by
    show (if k = t then some v else D k).isNone = _
    split <;> rfl
  rw [if_pos (by rw [h]; rfl)] at e
  rw [e2]
  exact e
theorem nno_0 {s : Nat} (hs : s < 48) : nno (fun t => if t = s then some 0 else none) = 47 := by
  have e := fb_ct_upd (fun _ => true) false (i := s) (n := 48) hs
  have e2 : nno (fun t => if t = s then some 0 else none) = fb_ct (fun k => if k = s then false else true) 48 := fb_ct_cong fun k _ => by
    show (if k = s then some 0 else none : Option Nat).isNone = _
    split <;> rfl
  have e3 : fb_ct (fun _ => true) 48 = 48 := fb_ct_all.mpr fun _ _ => rfl
  rw [if_pos rfl, if_neg (by decide), e3] at e
  rw [e2]
  omega
theorem dI_is {o : Option Nat} {d : Nat} (hd : d < 100) (ho : ∀ k, o = some k → k < 100) : dI o = nI d ↔ o = some d := by
  cases o with
  | none => exact ⟨fun h => absurd h.symm (nI_ne (by omega)), fun h => by cases h⟩
  | some k =>
    have := ho k rfl
    show nI k = nI d ↔ _
    rw [nI_eq (by omega) (by omega)]
    exact ⟨fun h => by rw [h], fun h => by cases h; rfl⟩
theorem dI_nn {o : Option Nat} (ho : ∀ k, o = some k → k < 100) : dI o = -1 ↔ o = none := by
  cases o with
  | none => exact ⟨fun _ => rfl, fun _ => rfl⟩
  | some k =>
    have := ho k rfl
    exact ⟨fun h => absurd h (nI_ne (by omega)), fun h => by cases h⟩
abbrev clI (n : Nat) (f : Nat → Int32) (r s d k : Nat) (D : Nat → Option Nat) (mo : Bool) : Prop := (bLv (upE n f r) s d D) ∧ (mo = false → ∀ t, D t ≠ some (d + 1)) ∧ (d + nno D + (if mo = true then 1 else 0) ≤ 47) ∧ (∀ t j, D t = some j → t / 2 < n) ∧ (∀ k', k' < k → k' < 48 → D (sT k') = some d → ∀ t, upE n f r (sT k') t → ∃ j, D t = some j)
theorem clI.bs {n : Nat} {f : Nat → Int32} {r s d k : Nat} {D : Nat → Option Nat} {mo : Bool} (h : clI n f r s d k D mo) : bLv (upE n f r) s d D := h.1
theorem clI.mf {n : Nat} {f : Nat → Int32} {r s d k : Nat} {D : Nat → Option Nat} {mo : Bool} (h : clI n f r s d k D mo) : mo = false → ∀ t, D t ≠ some (d + 1) := h.2.1
theorem clI.cn {n : Nat} {f : Nat → Int32} {r s d k : Nat} {D : Nat → Option Nat} {mo : Bool} (h : clI n f r s d k D mo) : d + nno D + (if mo = true then 1 else 0) ≤ 47 := h.2.2.1
theorem clI.bd {n : Nat} {f : Nat → Int32} {r s d k : Nat} {D : Nat → Option Nat} {mo : Bool} (h : clI n f r s d k D mo) : ∀ t j, D t = some j → t / 2 < n := h.2.2.2.1
theorem clI.pr {n : Nat} {f : Nat → Int32} {r s d k : Nat} {D : Nat → Option Nat} {mo : Bool} (h : clI n f r s d k D mo) : ∀ k', k' < k → k' < 48 → D (sT k') = some d → ∀ t, upE n f r (sT k') t → ∃ j, D t = some j := h.2.2.2.2
theorem clI.put {n : Nat} {f : Nat → Int32} {r s d k k1 t : Nat} {D : Nat → Option Nat} {mo : Bool} (h : clI n f r s d k D mo) (hp : D (sT k1) = some d) (he : upE n f r (sT k1) t) (ht : D t = none) (h48 : t < 48) : clI n f r s d k (oput D t (d + 1)) true := by
  refine ⟨h.bs.put hp he ht, (fun z => by cases z), ?_, fun u j hu => ?_, fun k' hk hk2 hd u hu => ?_⟩
  · have := nno_put (v := d + 1) h48 ht
    have := h.cn
    rw [if_pos rfl]
    omega
  · by_cases e : u = t
    · rw [e]; exact he.1
    · exact h.bd u j ((if_neg e).symm.trans hu)
  · by_cases e : u = t
    · exact ⟨d + 1, if_pos e⟩
    · have hd' : (if sT k' = t then some (d + 1) else D (sT k')) = some d := hd
      by_cases e2 : sT k' = t
      · rw [if_pos e2] at hd'; cases hd'
      · rw [if_neg e2] at hd'
        obtain ⟨j, hj⟩ := h.pr k' hk hk2 hd' u hu
        exact ⟨j, (if_neg e).trans hj⟩
theorem clI.lt {n : Nat} {f : Nat → Int32} {r s d k : Nat} {D : Nat → Option Nat} {mo : Bool} (h : clI n f r s d k D mo) {t j : Nat} (ht : D t = some j) : j < 100 := by
  have := h.bs.up t j ht
  have := h.cn
  omega
def upA (D : Nat → Option Nat) (R : Nat → Int32) : Prop := ∀ k, k < 48 → R k = dI (D (sT k))
theorem upA_put {D : Nat → Option Nat} {A : Nat → Nat → Int32} {k d : Nat} (h : upA D (A 72)) (hk : k < 48) : upA (oput D (sT k) (d + 1)) (zup2 A 72 k (nI (d + 1)) 72) := fun x hx => by
  rw [zup2_row]
  show (if x = k then _ else A 72 x) = dI (if sT x = sT k then some (d + 1) else D (sT x))
  by_cases e : x = k
  · rw [if_pos e, if_pos (by rw [e])]; rfl
  · rw [if_neg e, if_neg (by unfold sT; omega)]; exact h x hx
theorem c_misUp (F0 : Nat → Int32) (G : Nat → Int64) (A : Nat → Nat → Int32) (B : Nat → Nat → Int64) (n d : Nat) (f : Nat → Int32) (r a b : Nat) (h : nok n d f) (hc : conn n f (allB n)) (hD : ∀ x y, x < n → y < n → A 23 (24 * x + y) = nI (dN n f x y)) (hr : r < n) (ha : a < n) (hb : b < n) :
    zCtr yX6_isUp cX6_isUp 6 (some .boolean) 0 0 0 [zr 1 0, zi (nI r), zi (nI a), zi (nI b)] [zH, zG F0 G A B] (fun r' w => r' = some (zi (bI (uq n f r a b))) ∧ w = [zH, zG F0 G A B]) zNx := by
  refine z_start (by decide) [some (zr 1 0), some (zi (nI r)), some (zi (nI a)), some (zi (nI b)), none, none] rfl (fun _ => Nat.le_of_ble_eq_true rfl) (fun _ => rfl) (fun X F E hno hin => ?_)
  have hn := h.n24
  have b1 := dst_lt (dN_eq hn hc hr ha) (by omega)
  have b2 := dst_lt (dN_eq hn hc hr hb) (by omega)
  refine z_aload_n F dX6_isUp_0 rfl ?_
  refine z_ma F rfl 23 rfl (Nat.le_of_ble_eq_true rfl) rfl q1503 dX6_isUp_1 ?_
  refine z_bipush F (nI 24) dX6_isUp_4 rfl ?_
  refine z_iload_n F dX6_isUp_6 rfl ?_
  refine z_imulN F dX6_isUp_7 ?_
  refine z_iload_n F dX6_isUp_8 rfl ?_
  refine z_iaddN F dX6_isUp_9 ?_
  refine z_ialdGN F rfl rfl (Nat.le_of_ble_eq_true rfl) (by omega) rfl dX6_isUp_10 ?_
  refine z_ieq (hD r a hr ha) ?_
  refine z_istore F dX6_isUp_11 (Nat.le_of_ble_eq_true rfl) ?_
  refine z_leq (L' := [_, _, _, _, _, _]) rfl ?_
  refine z_aload_n F dX6_isUp_13 rfl ?_
  refine z_ma F rfl 23 rfl (Nat.le_of_ble_eq_true rfl) rfl q1503 dX6_isUp_14 ?_
  refine z_bipush F (nI 24) dX6_isUp_17 rfl ?_
  refine z_iload_n F dX6_isUp_19 rfl ?_
  refine z_imulN F dX6_isUp_20 ?_
  refine z_iload_n F dX6_isUp_21 rfl ?_
  refine z_iaddN F dX6_isUp_22 ?_
  refine z_ialdGN F rfl rfl (Nat.le_of_ble_eq_true rfl) (by omega) rfl dX6_isUp_23 ?_
  refine z_ieq (hD r b hr hb) ?_
  refine z_istore F dX6_isUp_24 (Nat.le_of_ble_eq_true rfl) ?_
  refine z_leq (L' := [_, _, _, _, _, _]) rfl ?_
  refine z_iload F dX6_isUp_26 rfl ?_
  refine z_iload F dX6_isUp_28 rfl ?_
  refine z_icmp_ltN F (by omega) (by omega) (tgt := 45) dX6_isUp_30 (by decide) (fun c_30 => ?_) (fun c_30 => ?_)
  · refine z_iconstB F true dX6_isUp_45 rfl ?_
    refine z_goto F (tgt := 50) dX6_isUp_46 (by decide) ?_
    exact z_zret F E rfl (bI_nar _) dX6_isUp_50 (by omega) (by omega) (⟨by rw [uq_t (Or.inl c_30)], rfl⟩)
  · refine z_iload F dX6_isUp_33 rfl ?_
    refine z_iload F dX6_isUp_35 rfl ?_
    refine z_icmp_neN F (by omega) (by omega) (tgt := 49) dX6_isUp_37 (by decide) (fun c_37 => ?_) (fun c_37 => ?_)
    · refine z_iconstB F false dX6_isUp_49 rfl ?_
      exact z_zret F E rfl (bI_nar _) dX6_isUp_50 (by omega) (by omega) (⟨by rw [uq_f (by omega)], rfl⟩)
    · refine z_iload_n F dX6_isUp_40 rfl ?_
      refine z_iload_n F dX6_isUp_41 rfl ?_
      refine z_icmp_geN F (by omega) (by omega) (tgt := 49) dX6_isUp_42 (by decide) (fun c_42 => ?_) (fun c_42 => ?_)
      · refine z_iconstB F false dX6_isUp_49 rfl ?_
        exact z_zret F E rfl (bI_nar _) dX6_isUp_50 (by omega) (by omega) (⟨by rw [uq_f (by omega)], rfl⟩)
      · refine z_iconstB F true dX6_isUp_45 rfl ?_
        refine z_goto F (tgt := 50) dX6_isUp_46 (by decide) ?_
        exact z_zret F E rfl (bI_nar _) dX6_isUp_50 (by omega) (by omega) (⟨by rw [uq_t (by omega)], rfl⟩)
theorem c_climbs (F0 : Nat → Int32) (G : Nat → Int64) (A : Nat → Nat → Int32) (B : Nat → Nat → Int64) (n d0 : Nat) (f : Nat → Int32) (r s : Nat) (h : nok n d0 f) (hc : conn n f (allB n)) (h4 : F0 4 = nI n) (hf : ∀ k, k < n → A 6 k = f k) (hD : ∀ x y, x < n → y < n → A 23 (24 * x + y) = nI (dN n f x y)) (hr : r < n) (hs : s < n) :
    zCtr yX6_climbsFrom cX6_climbsFrom 10 none 1 0 0 [zr 1 0, zi (nI r), zi (nI s)] [zH, zG F0 G A B] (fun r' w => r' = none ∧ ∃ A', w = [zH, zG F0 G A' B] ∧ frm [72] A A' ∧ ∀ k, k < 48 → A' 72 k = dI (Rv (upE n f r) (2 * s) (sT k))) zNx := by
  refine z_start (by decide) [some (zr 1 0), some (zi (nI r)), some (zi (nI s)), none, none, none, none, none, none, none] rfl (fun _ => Nat.le_of_ble_eq_true rfl) (fun _ => rfl) (fun X F E hno hin => ?_)
  have hn := h.n24
  have inner : ∀ (d k : Nat), d < 48 → k < 48 → k % 24 < n → (∀ D mo A1, clI n f r (2 * s) d (k + 1) D mo → upA D (A1 72) → frm [72] A A1 → Z X [some (zr 1 0), some (zi (nI r)), some (zi (nI s)), some (zi (bI mo)), some (zi (nI d)), some (zi (nI (k + 1))), none, none, none, none] [] [zH, zG F0 G A1 B] 0 0 42) →
      ∀ (m b : Nat) (D : Nat → Option Nat) (mo : Bool) (A1 : Nat → Nat → Int32), n - b < m → b ≤ n → clI n f r (2 * s) d k D mo → D (sT k) = some d → (∀ t, upE n f r (sT k) t → t / 2 < b → ∃ j, D t = some j) → upA D (A1 72) → frm [72] A A1 → Z X [some (zr 1 0), some (zi (nI r)), some (zi (nI s)), some (zi (bI mo)), some (zi (nI d)), some (zi (nI k)), some (zi (nI (k % 24))), some (zi (nI b)), none, none] [] [zH, zG F0 G A1 B] 0 0 74 := by
    intro d k hd hk hkn kk m
    induction m with
    | zero => intro b D mo A1 hm; omega
    | succ m ih =>
      intro b D mo A1 hm hb hI hpd hcov hA hF
      have e1 : sT k / 2 = k % 24 := by unfold sT; omega
      have e2 : sT k % 2 = k / 24 := by unfold sT; omega
      have skip : b < n → (∀ t, upE n f r (sT k) t → t / 2 = b → ∃ j, D t = some j) → Z X [some (zr 1 0), some (zi (nI r)), some (zi (nI s)), some (zi (bI mo)), some (zi (nI d)), some (zi (nI k)), some (zi (nI (k % 24))), some (zi (nI b)), none, none] [] [zH, zG F0 G A1 B] 0 0 164 := by
        intro hbn q
        refine z_iincN F 1 dX6_climbsFrom_164 rfl rfl ?_
        refine z_leq (L' := [_, _, _, _, _, _, _, _, _, _]) rfl ?_
        refine z_goto F (tgt := 74) dX6_climbsFrom_167 (by decide) ?_
        exact ih (b + 1) D mo A1 (by omega) (by omega) hI hpd (fun t ht h2 => by
          by_cases q2 : t / 2 = b
          · exact q t ht q2
          · exact hcov t ht (by omega)) hA hF
      have put : ∀ (to : Nat), b < n → to < 48 → to % 24 = b → D (sT to) = none → upE n f r (sT k) (sT to) → (∀ t, upE n f r (sT k) t → t / 2 = b → t = sT to) → Z X [some (zr 1 0), some (zi (nI r)), some (zi (nI s)), some (zi (bI true)), some (zi (nI d)), some (zi (nI k)), some (zi (nI (k % 24))), some (zi (nI b)), none, none] [] [zH, zG F0 G (zup2 A1 72 to (nI (d + 1))) B] 0 0 164 := by
        intro to hbn hto q1 q2 q3 q4
        refine z_iincN F 1 dX6_climbsFrom_164 rfl rfl ?_
        refine z_leq (L' := [_, _, _, _, _, _, _, _, _, _]) rfl ?_
        refine z_goto F (tgt := 74) dX6_climbsFrom_167 (by decide) ?_
        exact ih (b + 1) (oput D (sT to) (d + 1)) true _ (by omega) (by omega) (hI.put hpd q3 q2 (by unfold sT; omega)) ((if_neg (fun z => by rw [← z, hpd] at q2; cases q2)).trans hpd) (fun t ht h2 => by
          by_cases q5 : t / 2 = b
          · exact ⟨d + 1, if_pos (q4 t ht q5)⟩
          · obtain ⟨j, hj⟩ := hcov t ht (by omega)
            exact ⟨j, (if_neg (fun z => q5 (by rw [z]; unfold sT; omega))).trans hj⟩) (upA_put hA hto) (frm_zup hF (by decide))
      have lt1 : ∀ t j, D t = some j → j < 100 := fun t j => hI.lt
      have det : ∀ t, upE n f r (sT k) t → t / 2 = b → bt (f (k % 24)) b = true ∧ t = 2 * b + (if uq n f r (k % 24) b = true then 0 else 1) ∧ ¬ (k / 24 = 1 ∧ uq n f r (k % 24) b = true) := fun t ht q => by
        obtain ⟨t1, t2, t3, t4⟩ := ht
        rw [e1, q] at t2 t3
        rw [e1, e2, q] at t4
        exact ⟨t2, by rw [← t3]; omega, t4⟩
      refine z_iload F dX6_climbsFrom_74 rfl ?_
      refine z_aload_n F dX6_climbsFrom_76 rfl ?_
      refine z_mi F rfl 4 rfl (Nat.le_of_ble_eq_true rfl) rfl q1484 dX6_climbsFrom_77 ?_
      refine z_ieq (h4) ?_
      refine z_icmp_geN F (by omega) (by omega) (tgt := 170) dX6_climbsFrom_80 (by decide) (fun c_80 => ?_) (fun c_80 => ?_)
      · refine z_iincN F 1 dX6_climbsFrom_170 rfl rfl ?_
        refine z_leq (L' := [_, _, _, _, _, _, _, _, _, _]) rfl ?_
        refine z_goto F (tgt := 42) dX6_climbsFrom_173 (by decide) ?_
        rw [show b = n by omega] at hcov
        have hI2 : clI n f r (2 * s) d (k + 1) D mo := ⟨hI.bs, hI.mf, hI.cn, hI.bd, fun k' hk' hk2 hd' t ht => by
          by_cases q : k' = k
          · subst q; exact hcov t ht ht.1
          · exact hI.pr k' (by omega) hk2 hd' t ht⟩
        refine z_loc [some (zr 1 0), some (zi (nI r)), some (zi (nI s)), some (zi (bI mo)), some (zi (nI d)), some (zi (nI (k + 1))), none, none, none, none] ⟨rfl, rfl, rfl, rfl, rfl, rfl, trivial⟩ ?_
        exact kk D mo A1 hI2 hA hF
      · refine z_aload_n F dX6_climbsFrom_83 rfl ?_
        refine z_iload F dX6_climbsFrom_84 rfl ?_
        refine z_iload F dX6_climbsFrom_86 rfl ?_
        refine z_callV F (c_isJoined _ _ _ _ (k % 24) b (by omega) (by omega)) 2 rfl (lw_V q1748 q1750 qs46 q117 q1751) (by decide +kernel) ⟨Nat.le_of_ble_eq_true rfl, Nat.le_of_ble_eq_true rfl⟩ ⟨by omega, by omega⟩ [0, 1] 2 ⟨rfl, rfl, rfl, ⟨Or.inl rfl, Or.inr rfl, trivial⟩⟩ (fun h => nomatch h) (Nat.le_of_ble_eq_true rfl) ⟨⟨Or.inr trivial, Or.inl rfl, trivial⟩, rfl, rfl, rfl, Nat.le_of_ble_eq_true rfl⟩ rfl zC6 (zat_G0 rfl) rfl dX6_climbsFrom_88 (fun r_88 w_88 hp => ?_) (fun _ _ h => h.elim)
        obtain ⟨rfl, rfl⟩ := hp
        rw [hF.at 6 rfl, hf _ hkn]
        refine z_weq (w' := [zH, zG _ _ _ _]) rfl ?_
        refine z_seq (S' := zi _ :: _) rfl ?_
        refine z_if_neB F (tgt := 97) dX6_climbsFrom_91 (by decide) (fun c_91 => ?_) (fun c_91 => ?_)
        · refine z_aload_n F dX6_climbsFrom_97 rfl ?_
          refine z_iload_n F dX6_climbsFrom_98 rfl ?_
          refine z_iload F dX6_climbsFrom_99 rfl ?_
          refine z_iload F dX6_climbsFrom_101 rfl ?_
          refine z_callV F (c_misUp F0 _ A1 _ n d0 f r (k % 24) b h hc (fun x y hx hy => by rw [hF.at 23 rfl]; exact hD x y hx hy) hr hkn (by omega)) 3 rfl (lw_V q2131 q2133 qs103 q117 q2134) (by decide +kernel) ⟨Nat.le_of_ble_eq_true rfl, Nat.le_of_ble_eq_true rfl⟩ ⟨by omega, by omega⟩ [0, 1] 2 ⟨rfl, rfl, rfl, ⟨Or.inl rfl, Or.inr rfl, trivial⟩⟩ (fun h => nomatch h) (Nat.le_of_ble_eq_true rfl) ⟨⟨Or.inr trivial, Or.inl rfl, trivial⟩, rfl, rfl, rfl, Nat.le_of_ble_eq_true rfl⟩ rfl zC6 (zat_G0 rfl) rfl dX6_climbsFrom_103 (fun r_103 w_103 hp => ?_) (fun _ _ h => h.elim)
          obtain ⟨rfl, rfl⟩ := hp
          refine z_weq (w' := [zH, zG _ _ _ _]) rfl ?_
          refine z_seq (S' := zi _ :: _) rfl ?_
          refine z_istore F dX6_climbsFrom_106 (Nat.le_of_ble_eq_true rfl) ?_
          refine z_leq (L' := [_, _, _, _, _, _, _, _, _, _]) rfl ?_
          refine z_iload F dX6_climbsFrom_108 rfl ?_
          refine z_if_eqB F (tgt := 118) dX6_climbsFrom_110 (by decide) (fun c_110 => ?_) (fun c_110 => ?_)
          · refine z_iload F dX6_climbsFrom_118 rfl ?_
            refine z_bipush F (nI 24) dX6_climbsFrom_120 rfl ?_
            refine z_iaddN F dX6_climbsFrom_122 ?_
            refine z_istore F dX6_climbsFrom_123 (Nat.le_of_ble_eq_true rfl) ?_
            refine z_leq (L' := [_, _, _, _, _, _, _, _, _, _]) rfl ?_
            refine z_iload F dX6_climbsFrom_125 rfl ?_
            refine z_if_eqB F (tgt := 137) dX6_climbsFrom_127 (by decide) (fun c_127 => ?_) (fun c_127 => ?_)
            · refine z_aload_n F dX6_climbsFrom_137 rfl ?_
              refine z_ma F rfl 72 rfl (Nat.le_of_ble_eq_true rfl) rfl q1552 dX6_climbsFrom_138 ?_
              refine z_iload F dX6_climbsFrom_141 rfl ?_
              refine z_ialdGN F rfl rfl (Nat.le_of_ble_eq_true rfl) (by omega) rfl dX6_climbsFrom_143 ?_
              refine z_iconst F (-1) dX6_climbsFrom_144 rfl ?_
              refine z_icmp_eq F (tgt := 151) dX6_climbsFrom_145 (by decide) (fun c_145 => ?_) (fun c_145 => ?_)
              · refine z_aload_n F dX6_climbsFrom_151 rfl ?_
                refine z_ma F rfl 72 rfl (Nat.le_of_ble_eq_true rfl) rfl q1552 dX6_climbsFrom_152 ?_
                refine z_iload F dX6_climbsFrom_155 rfl ?_
                refine z_iload F dX6_climbsFrom_157 rfl ?_
                refine z_iconst F (nI 1) dX6_climbsFrom_159 rfl ?_
                refine z_iaddN F dX6_climbsFrom_160 ?_
                refine z_iastGN F rfl rfl (Nat.le_of_ble_eq_true rfl) (by omega) dX6_climbsFrom_161 ?_
                refine z_weq (w' := [_, _]) rfl ?_
                refine z_iconstB F true dX6_climbsFrom_162 rfl ?_
                refine z_istore_n F dX6_climbsFrom_163 (Nat.le_of_ble_eq_true rfl) ?_
                refine z_leq (L' := [_, _, _, _, _, _, _, _, _, _]) rfl ?_
                have no : D (sT (b + 24)) = none := (dI_nn (fun j => lt1 _ j)).mp (by rw [← hA (b + 24) (by omega)]; exact c_145)
                refine z_loc _ ?_ (put (b + 24) (by omega) (by omega) (by omega) no ⟨by unfold sT; omega, by rw [e1, show sT (b + 24) / 2 = b by unfold sT; omega]; exact c_91, by rw [e1, show sT (b + 24) / 2 = b by unfold sT; omega, c_110, if_neg (by decide)]; unfold sT; omega, by rw [e1, show sT (b + 24) / 2 = b by unfold sT; omega, c_110]; simp⟩ (fun t ht q => by
                  have hx := (det t ht q).2.1
                  rw [c_110, if_neg (by decide)] at hx
                  unfold sT; omega))
                exact ⟨rfl, rfl, rfl, rfl, rfl, rfl, rfl, rfl, trivial⟩
              · refine z_goto F (tgt := 164) dX6_climbsFrom_148 (by decide) ?_
                refine z_loc _ ?_ (skip (by omega) (fun t ht q => by
                  have hx := (det t ht q).2.1
                  cases e9 : D t with
                  | some j => exact ⟨j, rfl⟩
                  | none =>
                    exfalso
                    first
                    | (rw [c_110, if_pos rfl] at hx
                       exact c_145 (by rw [hA b (by omega), show sT b = t by unfold sT; omega, e9]; rfl))
                    | (rw [c_110, if_neg (by decide)] at hx
                       exact c_145 (by rw [hA (b + 24) (by omega), show sT (b + 24) = t by unfold sT; omega, e9]; rfl))))
                exact ⟨rfl, rfl, rfl, rfl, rfl, rfl, rfl, rfl, trivial⟩
            · rw [c_110] at c_127; cases c_127
          · refine z_iload F dX6_climbsFrom_113 rfl ?_
            refine z_goto F (tgt := 123) dX6_climbsFrom_115 (by decide) ?_
            refine z_istore F dX6_climbsFrom_123 (Nat.le_of_ble_eq_true rfl) ?_
            refine z_leq (L' := [_, _, _, _, _, _, _, _, _, _]) rfl ?_
            refine z_iload F dX6_climbsFrom_125 rfl ?_
            refine z_if_eqB F (tgt := 137) dX6_climbsFrom_127 (by decide) (fun c_127 => ?_) (fun c_127 => ?_)
            · rw [c_110] at c_127; cases c_127
            · refine z_iload F dX6_climbsFrom_130 rfl ?_
              refine z_bipush F (nI 24) dX6_climbsFrom_132 rfl ?_
              refine z_icmp_geN F (by omega) (by omega) (tgt := 164) dX6_climbsFrom_134 (by decide) (fun c_134 => ?_) (fun c_134 => ?_)
              · refine z_loc _ ?_ (skip (by omega) (fun t ht q => absurd ⟨by omega, c_127⟩ (det t ht q).2.2))
                exact ⟨rfl, rfl, rfl, rfl, rfl, rfl, rfl, rfl, trivial⟩
              · refine z_aload_n F dX6_climbsFrom_137 rfl ?_
                refine z_ma F rfl 72 rfl (Nat.le_of_ble_eq_true rfl) rfl q1552 dX6_climbsFrom_138 ?_
                refine z_iload F dX6_climbsFrom_141 rfl ?_
                refine z_ialdGN F rfl rfl (Nat.le_of_ble_eq_true rfl) (by omega) rfl dX6_climbsFrom_143 ?_
                refine z_iconst F (-1) dX6_climbsFrom_144 rfl ?_
                refine z_icmp_eq F (tgt := 151) dX6_climbsFrom_145 (by decide) (fun c_145 => ?_) (fun c_145 => ?_)
                · refine z_aload_n F dX6_climbsFrom_151 rfl ?_
                  refine z_ma F rfl 72 rfl (Nat.le_of_ble_eq_true rfl) rfl q1552 dX6_climbsFrom_152 ?_
                  refine z_iload F dX6_climbsFrom_155 rfl ?_
                  refine z_iload F dX6_climbsFrom_157 rfl ?_
                  refine z_iconst F (nI 1) dX6_climbsFrom_159 rfl ?_
                  refine z_iaddN F dX6_climbsFrom_160 ?_
                  refine z_iastGN F rfl rfl (Nat.le_of_ble_eq_true rfl) (by omega) dX6_climbsFrom_161 ?_
                  refine z_weq (w' := [_, _]) rfl ?_
                  refine z_iconstB F true dX6_climbsFrom_162 rfl ?_
                  refine z_istore_n F dX6_climbsFrom_163 (Nat.le_of_ble_eq_true rfl) ?_
                  refine z_leq (L' := [_, _, _, _, _, _, _, _, _, _]) rfl ?_
                  have no : D (sT b) = none := (dI_nn (fun j => lt1 _ j)).mp (by rw [← hA b (by omega)]; exact c_145)
                  refine z_loc _ ?_ (put b (by omega) (by omega) (by omega) no ⟨by unfold sT; omega, by rw [e1, show sT b / 2 = b by unfold sT; omega]; exact c_91, by rw [e1, show sT b / 2 = b by unfold sT; omega, c_110, if_pos rfl]; unfold sT; omega, by rw [e2]; omega⟩ (fun t ht q => by
                    have hx := (det t ht q).2.1
                    rw [c_110, if_pos rfl] at hx
                    unfold sT; omega))
                  exact ⟨rfl, rfl, rfl, rfl, rfl, rfl, rfl, rfl, trivial⟩
                · refine z_goto F (tgt := 164) dX6_climbsFrom_148 (by decide) ?_
                  refine z_loc _ ?_ (skip (by omega) (fun t ht q => by
                    have hx := (det t ht q).2.1
                    cases e9 : D t with
                    | some j => exact ⟨j, rfl⟩
                    | none =>
                      exfalso
                      first
                      | (rw [c_110, if_pos rfl] at hx
                         exact c_145 (by rw [hA b (by omega), show sT b = t by unfold sT; omega, e9]; rfl))
                      | (rw [c_110, if_neg (by decide)] at hx
                         exact c_145 (by rw [hA (b + 24) (by omega), show sT (b + 24) = t by unfold sT; omega, e9]; rfl))))
                  exact ⟨rfl, rfl, rfl, rfl, rfl, rfl, rfl, rfl, trivial⟩
        · refine z_goto F (tgt := 164) dX6_climbsFrom_94 (by decide) ?_
          refine z_loc _ ?_ (skip (by omega) (fun t ht q => by rw [(det t ht q).1] at c_91; cases c_91))
          exact ⟨rfl, rfl, rfl, rfl, rfl, rfl, rfl, rfl, trivial⟩
  have mid : ∀ (d : Nat), d < 48 → (∀ D mo A1, clI n f r (2 * s) d 48 D mo → upA D (A1 72) → frm [72] A A1 → Z X [some (zr 1 0), some (zi (nI r)), some (zi (nI s)), some (zi (bI mo)), some (zi (nI d)), none, none, none, none, none] [] [zH, zG F0 G A1 B] 0 0 176) →
      ∀ (m k : Nat) (D : Nat → Option Nat) (mo : Bool) (A1 : Nat → Nat → Int32), 48 - k < m → k ≤ 48 → clI n f r (2 * s) d k D mo → upA D (A1 72) → frm [72] A A1 → Z X [some (zr 1 0), some (zi (nI r)), some (zi (nI s)), some (zi (bI mo)), some (zi (nI d)), some (zi (nI k)), none, none, none, none] [] [zH, zG F0 G A1 B] 0 0 42 := by
    intro d hd kk m
    induction m with
    | zero => intro k D mo A1 hm; omega
    | succ m ih =>
      intro k D mo A1 hm hk hI hA hF
      have lt1 : ∀ t j, D t = some j → j < 100 := fun t j => hI.lt
      have gA : k < 48 → A1 72 k = dI (D (sT k)) := fun q => hA k q
      refine z_iload F dX6_climbsFrom_42 rfl ?_
      refine z_bipush F (nI 48) dX6_climbsFrom_44 rfl ?_
      refine z_icmp_geN F (by omega) (by omega) (tgt := 176) dX6_climbsFrom_46 (by decide) (fun c_46 => ?_) (fun c_46 => ?_)
      · rw [show k = 48 by omega] at hI
        refine z_loc _ ?_ (kk D mo A1 hI hA hF)
        exact ⟨rfl, rfl, rfl, rfl, rfl, trivial⟩
      · refine z_aload_n F dX6_climbsFrom_49 rfl ?_
        refine z_ma F rfl 72 rfl (Nat.le_of_ble_eq_true rfl) rfl q1552 dX6_climbsFrom_50 ?_
        refine z_iload F dX6_climbsFrom_53 rfl ?_
        refine z_ialdGN F rfl rfl (Nat.le_of_ble_eq_true rfl) (by omega) rfl dX6_climbsFrom_55 ?_
        refine z_iload F dX6_climbsFrom_56 rfl ?_
        refine z_icmp_eq F (tgt := 64) dX6_climbsFrom_58 (by decide) (fun c_58 => ?_) (fun c_58 => ?_)
        · have hpd : D (sT k) = some d := (dI_is (by omega) (fun j => lt1 _ j)).mp (by rw [← gA (by omega)]; exact c_58)
          have hkn : k % 24 < n := by have := hI.bd _ _ hpd; unfold sT at this; omega
          refine z_iload F dX6_climbsFrom_64 rfl ?_
          refine z_bipush F (nI 24) dX6_climbsFrom_66 rfl ?_
          refine z_iremN F (by omega) (by omega) (by omega) dX6_climbsFrom_68 ?_
          refine z_istore F dX6_climbsFrom_69 (Nat.le_of_ble_eq_true rfl) ?_
          refine z_leq (L' := [_, _, _, _, _, _, _, _, _, _]) rfl ?_
          refine z_iconst F (nI 0) dX6_climbsFrom_71 rfl ?_
          refine z_istore F dX6_climbsFrom_72 (Nat.le_of_ble_eq_true rfl) ?_
          refine z_leq (L' := [_, _, _, _, _, _, _, _, _, _]) rfl ?_
          exact inner d k hd (by omega) hkn (fun D2 mo2 A2 q1 q2 q3 => ih (k + 1) D2 mo2 A2 (by omega) (by omega) q1 q2 q3) (n + 1) 0 D mo A1 (by omega) (by omega) hI hpd (fun t _ z => absurd z (by omega)) hA hF
        · refine z_goto F (tgt := 170) dX6_climbsFrom_61 (by decide) ?_
          refine z_iincN F 1 dX6_climbsFrom_170 rfl rfl ?_
          refine z_leq (L' := [_, _, _, _, _, _, _, _, _, _]) rfl ?_
          refine z_goto F (tgt := 42) dX6_climbsFrom_173 (by decide) ?_
          have hne : D (sT k) ≠ some d := fun z => c_58 (by rw [gA (by omega), z]; rfl)
          refine ih (k + 1) D mo A1 (by omega) (by omega) ⟨hI.bs, hI.mf, hI.cn, hI.bd, fun k' hk' hk2 hd' t ht => ?_⟩ hA hF
          by_cases q : k' = k
          · subst q; exact absurd hd' hne
          · exact hI.pr k' (by omega) hk2 hd' t ht
  have out : ∀ (d : Nat) (D : Nat → Option Nat) (A1 : Nat → Nat → Int32), (∀ t, D t = Rv (upE n f r) (2 * s) t) → upA D (A1 72) → frm [72] A A1 → Z X [some (zr 1 0), some (zi (nI r)), some (zi (nI s)), some (zi (bI false)), some (zi (nI d)), none, none, none, none, none] [] [zH, zG F0 G A1 B] 0 0 33 := by
    intro d D A1 hD2 hA hF
    refine z_iload_n F dX6_climbsFrom_33 rfl ?_
    refine z_if_eqB F (tgt := 182) dX6_climbsFrom_34 (by decide) (fun c_34 => ?_) (fun c_34 => ?_)
    · exact z_vret F E rfl dX6_climbsFrom_182 (by omega) (by omega) (⟨rfl, A1, rfl, hF, fun k hk => by rw [hA k hk, hD2]⟩)
    · cases c_34
  have top : ∀ (m d : Nat) (D : Nat → Option Nat) (A1 : Nat → Nat → Int32), 48 - d < m → d + nno D ≤ 47 → bLv (upE n f r) (2 * s) d D → (∀ t k, D t = some k → k ≤ d) → (∀ t k, D t = some k → t / 2 < n) → upA D (A1 72) → frm [72] A A1 → Z X [some (zr 1 0), some (zi (nI r)), some (zi (nI s)), some (zi (bI true)), some (zi (nI d)), none, none, none, none, none] [] [zH, zG F0 G A1 B] 0 0 33 := by
    intro m
    induction m with
    | zero => intro d D A1 hm; omega
    | succ m ih =>
      intro d D A1 hm hcn hB hmx hbd hA hF
      have nx : ∀ D2 mo2 A2, clI n f r (2 * s) d 48 D2 mo2 → upA D2 (A2 72) → frm [72] A A2 → Z X [some (zr 1 0), some (zi (nI r)), some (zi (nI s)), some (zi (bI mo2)), some (zi (nI d)), none, none, none, none, none] [] [zH, zG F0 G A2 B] 0 0 176 := by
        intro D2 mo2 A2 q1 q2 q3
        have hb2 : bLv (upE n f r) (2 * s) (d + 1) D2 := q1.bs.lift (fun p t hp he => by
          have hpn := q1.bd p d hp
          have e : sT (24 * (p % 2) + p / 2) = p := by unfold sT; omega
          exact q1.pr (24 * (p % 2) + p / 2) (by omega) (by omega) (by rw [e]; exact hp) t (by rw [e]; exact he))
        have hcn2 := q1.cn
        have hup := q1.bs.up
        have hbd2 := q1.bd
        have hmf := q1.mf
        rcases mo2 with _ | _
        ·
          refine z_iincN F 1 dX6_climbsFrom_176 rfl rfl ?_
          refine z_leq (L' := [_, _, _, _, _, _, _, _, _, _]) rfl ?_
          refine z_goto F (tgt := 33) dX6_climbsFrom_179 (by decide) ?_
          exact out (d + 1) D2 A2 (hb2.end_ (hmf rfl)) q2 q3
        ·
          rw [if_pos rfl] at hcn2
          refine z_iincN F 1 dX6_climbsFrom_176 rfl rfl ?_
          refine z_leq (L' := [_, _, _, _, _, _, _, _, _, _]) rfl ?_
          refine z_goto F (tgt := 33) dX6_climbsFrom_179 (by decide) ?_
          exact ih (d + 1) D2 A2 (by omega) (by omega) hb2 hup hbd2 q2 q3
      refine z_iload_n F dX6_climbsFrom_33 rfl ?_
      refine z_if_eqB F (tgt := 182) dX6_climbsFrom_34 (by decide) (fun c_34 => ?_) (fun c_34 => ?_)
      · cases c_34
      · refine z_iconstB F false dX6_climbsFrom_37 rfl ?_
        refine z_istore_n F dX6_climbsFrom_38 (Nat.le_of_ble_eq_true rfl) ?_
        refine z_leq (L' := [_, _, _, _, _, _, _, _, _, _]) rfl ?_
        refine z_iconst F (nI 0) dX6_climbsFrom_39 rfl ?_
        refine z_istore F dX6_climbsFrom_40 (Nat.le_of_ble_eq_true rfl) ?_
        refine z_leq (L' := [_, _, _, _, _, _, _, _, _, _]) rfl ?_
        exact mid d (by omega) nx 49 0 D false A1 (by omega) (by omega) ⟨hB, fun _ t z => absurd (hmx t _ z) (by omega), by rw [if_neg (by decide)]; omega, hbd, fun k' hk' => absurd hk' (by omega)⟩ hA hF
  have fill : ∀ (m k : Nat) (A1 : Nat → Nat → Int32), 48 - k < m → k ≤ 48 → (∀ x, x < k → A1 72 x = -1) → frm [72] A A1 → Z X [some (zr 1 0), some (zi (nI r)), some (zi (nI s)), some (zi (nI k)), none, none, none, none, none, none] [] [zH, zG F0 G A1 B] 0 0 2 := by
    intro m
    induction m with
    | zero => intro k A1 hm; omega
    | succ m ih =>
      intro k A1 hm hk hA hF
      refine z_iload_n F dX6_climbsFrom_2 rfl ?_
      refine z_bipush F (nI 48) dX6_climbsFrom_3 rfl ?_
      refine z_icmp_geN F (by omega) (by omega) (tgt := 21) dX6_climbsFrom_5 (by decide) (fun c_5 => ?_) (fun c_5 => ?_)
      · refine z_aload_n F dX6_climbsFrom_21 rfl ?_
        refine z_ma F rfl 72 rfl (Nat.le_of_ble_eq_true rfl) rfl q1552 dX6_climbsFrom_22 ?_
        refine z_iload_n F dX6_climbsFrom_25 rfl ?_
        refine z_iconst F (nI 0) dX6_climbsFrom_26 rfl ?_
        refine z_iastGN F rfl rfl (Nat.le_of_ble_eq_true rfl) (by omega) dX6_climbsFrom_27 ?_
        refine z_weq (w' := [_, _]) rfl ?_
        refine z_iconstB F true dX6_climbsFrom_28 rfl ?_
        refine z_istore_n F dX6_climbsFrom_29 (Nat.le_of_ble_eq_true rfl) ?_
        refine z_leq (L' := [_, _, _, _, _, _, _, _, _, _]) rfl ?_
        refine z_iconst F (nI 0) dX6_climbsFrom_30 rfl ?_
        refine z_istore F dX6_climbsFrom_31 (Nat.le_of_ble_eq_true rfl) ?_
        refine z_leq (L' := [_, _, _, _, _, _, _, _, _, _]) rfl ?_
        refine z_loc [some (zr 1 0), some (zi (nI r)), some (zi (nI s)), some (zi (bI true)), some (zi (nI 0)), none, none, none, none, none] ⟨rfl, rfl, rfl, rfl, rfl, trivial⟩ (top 49 0 (fun t => if t = 2 * s then some 0 else none) _ (by omega) (by rw [nno_0 (by omega)]; omega) (bLv_0 _ _) (fun t k z => ?_) (fun t k z => ?_) (fun x hx => ?_) (frm_zup hF (by decide)))
        · by_cases q : t = 2 * s
          · rw [if_pos q] at z; cases z; omega
          · rw [if_neg q] at z; cases z
        · by_cases q : t = 2 * s
          · omega
          · rw [if_neg q] at z; cases z
        · rw [zup2_row]
          show (if x = s then _ else A1 72 x) = dI (if sT x = 2 * s then some 0 else none)
          by_cases q : x = s
          · rw [if_pos q, if_pos (by unfold sT; omega)]; rfl
          · rw [if_neg q, if_neg (by unfold sT; omega)]; exact hA x (by omega)
      · refine z_aload_n F dX6_climbsFrom_8 rfl ?_
        refine z_ma F rfl 72 rfl (Nat.le_of_ble_eq_true rfl) rfl q1552 dX6_climbsFrom_9 ?_
        refine z_iload_n F dX6_climbsFrom_12 rfl ?_
        refine z_iconst F (-1) dX6_climbsFrom_13 rfl ?_
        refine z_iastGN F rfl rfl (Nat.le_of_ble_eq_true rfl) (by omega) dX6_climbsFrom_14 ?_
        refine z_weq (w' := [_, _]) rfl ?_
        refine z_iincN F 1 dX6_climbsFrom_15 rfl rfl ?_
        refine z_leq (L' := [_, _, _, _, _, _, _, _, _, _]) rfl ?_
        refine z_goto F (tgt := 2) dX6_climbsFrom_18 (by decide) ?_
        refine ih (k + 1) _ (by omega) (by omega) (fun x hx => ?_) (frm_zup hF (by decide))
        rw [zup2_row]
        show (if x = k then _ else A1 72 x) = _
        by_cases q : x = k
        · rw [if_pos q]
        · rw [if_neg q]; exact hA x (by omega)
  refine z_iconst F (nI 0) dX6_climbsFrom_0 rfl ?_
  refine z_istore_n F dX6_climbsFrom_1 (Nat.le_of_ble_eq_true rfl) ?_
  refine z_leq (L' := [_, _, _, _, _, _, _, _, _, _]) rfl ?_
  exact fill 49 0 A (by omega) (by omega) (fun x hx => absurd hx (by omega)) frm.rf
end C91
