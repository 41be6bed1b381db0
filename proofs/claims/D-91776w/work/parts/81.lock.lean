/-! locks: what stands -/
section C81
def oy (p : Nat → Bool) : Nat → Bool
  | 0 => false
  | k + 1 => oy p k || p k
theorem oy_iff {p : Nat → Bool} : ∀ {k}, oy p k = true ↔ ∃ i, i < k ∧ p i = true
  | 0 => ⟨fun h => (by cases h), fun ⟨i, h, _⟩ => (by omega)⟩
  | k + 1 => by
    rw [oy, Bool.or_eq_true, oy_iff]
    constructor
    · rintro (⟨i, h1, h2⟩ | h)
      · exact ⟨i, by omega, h2⟩
      · exact ⟨k, by omega, h⟩
    · rintro ⟨i, h1, h2⟩
      by_cases q : i = k
      · rw [q] at h2; exact Or.inr h2
      · exact Or.inl ⟨i, by omega, h2⟩
def ldp (n : Nat) (f : Nat → Int32) (S : Nat → Nat → Bool) (a b t : Nat) : Bool := !decide (t = b) && (!decide (t = a) && (decide (hv n f a t = b) && S b (hv n f b t)))
def ldz (n : Nat) (f : Nat → Int32) (S : Nat → Nat → Bool) (a b : Nat) : Bool := oy (ldp n f S a b) n
abbrev LK : Type := (Nat → Nat → Bool) × Bool × Bool
def lkc (n : Nat) (f : Nat → Int32) (a b : Nat) (s : LK) : LK := if s.1 a b = true then (zup2 s.1 a b (ldz n f s.1 a b), s.2.1 || !ldz n f s.1 a b, s.2.2 || ldz n f s.1 a b) else s
def lkr (n : Nat) (f : Nat → Int32) (a : Nat) (s : LK) : Nat → LK
  | 0 => s
  | b + 1 => lkc n f a b (lkr n f a s b)
def lka (n : Nat) (f : Nat → Int32) (s : LK) : Nat → LK
  | 0 => s
  | a + 1 => lkr n f a (lka n f s a) n
def lkl (n : Nat) (f : Nat → Int32) : Nat → (Nat → Nat → Bool) → LK
  | 0, S => (S, false, false)
  | m + 1, S => if (lka n f (S, false, false) n).2.1 = true then lkl n f m (lka n f (S, false, false) n).1 else lka n f (S, false, false) n
def cS (n : Nat) (S : Nat → Nat → Bool) : Nat := fb_sm (fun a => fb_ct (S a) n) n
theorem cS_up {n a b : Nat} {S : Nat → Nat → Bool} {v : Bool} (ha : a < n) (hb : b < n) : cS n (zup2 S a b v) + (if S a b then 1 else 0) = cS n S + (if v then 1 else 0) := by
  have e1 : ∀ k, fb_ct (zup2 S a b v k) n = (fun k => if k = a then fb_ct (fun y => if y = b then v else S a y) n else fb_ct (S k) n) k := fun k => by
    show _ = if k = a then _ else _
    by_cases q : k = a
    · rw [if_pos q, q, zup2_row]
    · rw [if_neg q, zup2_ne q]
  have e2 : cS n (zup2 S a b v) = fb_sm (fun k => if k = a then fb_ct (fun y => if y = b then v else S a y) n else fb_ct (S k) n) n := fb_sm_cong (fun k _ => e1 k)
  have e3 := fb_sm_upd (fun k => fb_ct (S k) n) (fb_ct (fun y => if y = b then v else S a y) n) ha
  have e4 := fb_ct_upd (S a) v hb
  rw [e2]
  unfold cS
  omega
def lkI (n : Nat) (S : Nat → Nat → Bool) (s : LK) : Prop := if s.2.1 = true then cS n s.1 < cS n S else cS n s.1 = cS n S
theorem lkI_c {n a b : Nat} {f : Nat → Int32} {S : Nat → Nat → Bool} {s : LK} (h : lkI n S s) (ha : a < n) (hb : b < n) : lkI n S (lkc n f a b s) := by
  unfold lkc
  by_cases q : s.1 a b = true
  · rw [if_pos q]
    have e := cS_up (v := ldz n f s.1 a b) (S := s.1) ha hb
    rw [if_pos q] at e
    unfold lkI at h ⊢
    show if (s.2.1 || !ldz n f s.1 a b) = true then cS n (zup2 s.1 a b (ldz n f s.1 a b)) < _ else cS n (zup2 s.1 a b (ldz n f s.1 a b)) = _
    cases hl : ldz n f s.1 a b with
    | true =>
      rw [hl, if_pos rfl] at e
      rw [show (s.2.1 || !true) = s.2.1 by simp]
      split at h
      · rw [if_pos (by assumption)]; omega
      · rw [if_neg (by assumption)]; omega
    | false =>
      rw [hl, if_neg (by decide)] at e
      rw [if_pos (by simp)]
      split at h <;> omega
  · rw [if_neg q]; exact h
theorem lkI_r {n a : Nat} {f : Nat → Int32} {S : Nat → Nat → Bool} {s : LK} (h : lkI n S s) (ha : a < n) : ∀ b, b ≤ n → lkI n S (lkr n f a s b)
  | 0, _ => h
  | b + 1, hb => lkI_c (lkI_r h ha b (by omega)) ha (by omega)
theorem lkI_a {n : Nat} {f : Nat → Int32} {S : Nat → Nat → Bool} {s : LK} (h : lkI n S s) : ∀ a, a ≤ n → lkI n S (lka n f s a)
  | 0, _ => h
  | a + 1, ha => lkI_r (lkI_a h a (by omega)) (by omega) n (Nat.le_refl _)
theorem lk_less {n : Nat} {f : Nat → Int32} {S : Nat → Nat → Bool} (h : (lka n f (S, false, false) n).2.1 = true) : cS n (lka n f (S, false, false) n).1 < cS n S := by
  have := lkI_a (n := n) (f := f) (S := S) (s := (S, false, false)) (by unfold lkI; simp) n (Nat.le_refl _)
  unfold lkI at this
  rw [if_pos h] at this
  exact this
theorem cS_le (n : Nat) (S : Nat → Nat → Bool) : cS n S ≤ n * n := fb_sm_bound (fun k _ => fb_ct_le _ _)
theorem c_mleads (F0 : Nat → Int32) (G : Nat → Int64) (A : Nat → Nat → Int32) (B : Nat → Nat → Int64) (n d : Nat) (f : Nat → Int32) (S : Nat → Nat → Bool) (a b : Nat) (h : nok n d f) (hc : conn n f (allB n)) (h4 : F0 4 = nI n) (ha : a < n) (hb : b < n) (hH : ∀ x y, x < n → y < n → A 65 (24 * x + y) = hpI n f x y) (hS : ∀ x y, x < n → y < n → A 66 (24 * x + y) = bI (S x y)) :
    zCtr yX6_leads cX6_leads 4 (some .boolean) 0 0 0 [zr 1 0, zi (nI a), zi (nI b)] [zH, zG F0 G A B] (fun r w => r = some (zi (bI (ldz n f S a b))) ∧ w = [zH, zG F0 G A B]) zNx := by
  refine z_start (by decide) [some (zr 1 0), some (zi (nI a)), some (zi (nI b)), none] rfl (fun _ => Nat.le_of_ble_eq_true rfl) (fun _ => rfl) (fun X F E hno hin => ?_)
  have hn := h.n24
  have loop : ∀ (m t : Nat), n - t < m → t ≤ n → oy (ldp n f S a b) t = false → Z X [some (zr 1 0), some (zi (nI a)), some (zi (nI b)), some (zi (nI t))] [] [zH, zG F0 G A B] 0 0 2 := by
    intro m
    induction m with
    | zero => intro t hm; omega
    | succ m ih =>
      intro t hm ht ho
      have nx : t < n → ldp n f S a b t = false → Z X [some (zr 1 0), some (zi (nI a)), some (zi (nI b)), some (zi (nI (t + 1)))] [] [zH, zG F0 G A B] 0 0 2 := fun htn q => ih (t + 1) (by omega) (by omega) (by rw [oy, ho, q]; rfl)
      have g1 : t < n → ¬ t = a → A 65 (24 * a + t) = nI (hv n f a t) := fun htn q => by rw [hH a t ha htn, hpI_hv h hc ha htn (fun z => q z.symm)]
      have g2 : t < n → ¬ t = b → A 65 (24 * b + t) = nI (hv n f b t) := fun htn q => by rw [hH b t hb htn, hpI_hv h hc hb htn (fun z => q z.symm)]
      have g3 : t < n → ¬ t = b → hv n f b t < n := fun htn q => hpm_lt h hc hb htn (fun z => q z.symm)
      have g4 : t < n → hv n f a t ≤ n := fun _ => (lsf_spec (hpm n f a t) n).1
      refine z_iload_n F dX6_leads_2 rfl ?_
      refine z_aload_n F dX6_leads_3 rfl ?_
      refine z_mi F rfl 4 rfl (Nat.le_of_ble_eq_true rfl) rfl q1484 dX6_leads_4 ?_
      refine z_ieq (h4) ?_
      refine z_icmp_geN F (by omega) (by omega) (tgt := 70) dX6_leads_7 (by decide) (fun c_7 => ?_) (fun c_7 => ?_)
      · have e0 : t = n := by omega
        refine z_iconst F (nI 0) dX6_leads_70 rfl ?_
        exact z_zret F E rfl rfl dX6_leads_71 (by omega) (by omega) (⟨by rw [show ldz n f S a b = false from by have e9 := ho; rw [e0] at e9; exact e9]; rfl, rfl⟩)
      · have htn : t < n := by omega
        have q4 := g4 htn
        refine z_iload_n F dX6_leads_10 rfl ?_
        refine z_iload_n F dX6_leads_11 rfl ?_
        refine z_icmp_eqN F (by omega) (by omega) (tgt := 64) dX6_leads_12 (by decide) (fun c_12 => ?_) (fun c_12 => ?_)
        · refine z_iincN F 1 dX6_leads_64 rfl rfl ?_
          refine z_leq (L' := [_, _, _, _]) rfl ?_
          refine z_goto F (tgt := 2) dX6_leads_67 (by decide) ?_
          exact nx htn (by unfold ldp; rw [decide_eq_true c_12]; rfl)
        · refine z_iload_n F dX6_leads_15 rfl ?_
          refine z_iload_n F dX6_leads_16 rfl ?_
          refine z_icmp_eqN F (by omega) (by omega) (tgt := 64) dX6_leads_17 (by decide) (fun c_17 => ?_) (fun c_17 => ?_)
          · refine z_iincN F 1 dX6_leads_64 rfl rfl ?_
            refine z_leq (L' := [_, _, _, _]) rfl ?_
            refine z_goto F (tgt := 2) dX6_leads_67 (by decide) ?_
            exact nx htn (by unfold ldp; rw [decide_eq_true c_17, Bool.and_comm]; rfl)
          · refine z_aload_n F dX6_leads_20 rfl ?_
            refine z_ma F rfl 65 rfl (Nat.le_of_ble_eq_true rfl) rfl q1545 dX6_leads_21 ?_
            refine z_bipush F (nI 24) dX6_leads_24 rfl ?_
            refine z_iload_n F dX6_leads_26 rfl ?_
            refine z_imulN F dX6_leads_27 ?_
            refine z_iload_n F dX6_leads_28 rfl ?_
            refine z_iaddN F dX6_leads_29 ?_
            refine z_ialdGN F rfl rfl (Nat.le_of_ble_eq_true rfl) (by omega) rfl dX6_leads_30 ?_
            refine z_ieq (g1 htn c_17) ?_
            refine z_iload_n F dX6_leads_31 rfl ?_
            refine z_icmp_eqN F (by omega) (by omega) (tgt := 38) dX6_leads_32 (by decide) (fun c_32 => ?_) (fun c_32 => ?_)
            · have q3 := g3 htn c_12
              have gS := hS b _ hb q3
              refine z_aload_n F dX6_leads_38 rfl ?_
              refine z_ma F rfl 66 rfl (Nat.le_of_ble_eq_true rfl) rfl q1546 dX6_leads_39 ?_
              refine z_bipush F (nI 24) dX6_leads_42 rfl ?_
              refine z_iload_n F dX6_leads_44 rfl ?_
              refine z_imulN F dX6_leads_45 ?_
              refine z_aload_n F dX6_leads_46 rfl ?_
              refine z_ma F rfl 65 rfl (Nat.le_of_ble_eq_true rfl) rfl q1545 dX6_leads_47 ?_
              refine z_bipush F (nI 24) dX6_leads_50 rfl ?_
              refine z_iload_n F dX6_leads_52 rfl ?_
              refine z_imulN F dX6_leads_53 ?_
              refine z_iload_n F dX6_leads_54 rfl ?_
              refine z_iaddN F dX6_leads_55 ?_
              refine z_ialdGN F rfl rfl (Nat.le_of_ble_eq_true rfl) (by omega) rfl dX6_leads_56 ?_
              refine z_ieq (g2 htn c_12) ?_
              refine z_iaddN F dX6_leads_57 ?_
              refine z_zaldGN F rfl rfl (Nat.le_of_ble_eq_true rfl) (by omega) rfl dX6_leads_58 ?_
              refine z_if_eq F (tgt := 64) dX6_leads_59 (by decide) (fun c_59 => ?_) (fun c_59 => ?_)
              · have gx := gS
                refine z_iincN F 1 dX6_leads_64 rfl rfl ?_
                refine z_leq (L' := [_, _, _, _]) rfl ?_
                refine z_goto F (tgt := 2) dX6_leads_67 (by decide) ?_
                exact nx htn (by
                  have e9 : S b (hv n f b t) = false := by
                    cases e : S b (hv n f b t) with
                    | false => rfl
                    | true => rw [e] at gx; rw [gx] at c_59; exact absurd c_59 (by decide)
                  unfold ldp; rw [e9, Bool.and_false, Bool.and_false, Bool.and_false])
              · have gx := gS
                refine z_iconst F (nI 1) dX6_leads_62 rfl ?_
                exact z_zret F E rfl rfl dX6_leads_63 (by omega) (by omega) (⟨by rw [show ldz n f S a b = true from oy_iff.mpr ⟨t, htn, by unfold ldp; rw [decide_eq_false c_12, decide_eq_false c_17, decide_eq_true c_32]; first | (cases e9 : S b (hv n f b t) <;> rw [e9] at gx <;> first | rfl | exact absurd gx c_59)⟩]; rfl, rfl⟩)
            · refine z_goto F (tgt := 64) dX6_leads_35 (by decide) ?_
              refine z_iincN F 1 dX6_leads_64 rfl rfl ?_
              refine z_leq (L' := [_, _, _, _]) rfl ?_
              refine z_goto F (tgt := 2) dX6_leads_67 (by decide) ?_
              exact nx htn (by unfold ldp; rw [decide_eq_false c_32, Bool.false_and, Bool.and_false, Bool.and_false])
  refine z_iconst F (nI 0) dX6_leads_0 rfl ?_
  refine z_istore_n F dX6_leads_1 (Nat.le_of_ble_eq_true rfl) ?_
  refine z_leq (L' := [_, _, _, _]) rfl ?_
  exact loop (n + 1) 0 (by omega) (by omega) rfl
end C81
