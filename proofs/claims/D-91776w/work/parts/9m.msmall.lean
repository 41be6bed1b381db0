/-! small nets: the reference's sketches and notes -/
section C9m
def pAt (n lim : Nat) (R : Nat → Int32) : Prop := ∀ x y, x < y → y < n → pidx n x y < lim → R (6 * x + y) = nI (pidx n x y) ∧ R (6 * y + x) = nI (pidx n x y)
theorem c_msketch (F0 : Nat → Int32) (G : Nat → Int64) (A : Nat → Nat → Int32) (B : Nat → Nat → Int64) (n c : Nat) (h1 : 1 ≤ n) (hn : n < 7) : zCtr yX6_sketches cX6_sketches 6 none 1 0 0 [zr 1 0, zi (nI n), zi (nI c)] [zH, zG F0 G A B] (fun r w => r = none ∧ ∃ F' A', w = [zH, zG F' G A' B] ∧ frm [4, 5] F0 F' ∧ frm [6, 52] A A' ∧ F' 4 = nI n ∧ (∀ v, v < 24 → A' 6 v = skr n (nI c) (pcn n n) v) ∧ pAt n (pcn n n) (A' 52)) zNx := by
  refine z_start (by decide) [some (zr 1 0), some (zi (nI n)), some (zi (nI c)), none, none, none] rfl (fun _ => Nat.le_of_ble_eq_true rfl) (fun _ => rfl) (fun X F E hno hin => ?_)
  have h3 := (p_3 n hn).1
  have row : ∀ (F1 : Nat → Int32) (a : Nat), a < n → (∀ A1, frm [6, 52] A A1 → (∀ v, v < 24 → A1 6 v = skr n (nI c) (pcn n (a + 1)) v) → pAt n (pcn n (a + 1)) (A1 52) → Z X [some (zr 1 0), some (zi (nI n)), some (zi (nI c)), some (zi (nI (pcn n (a + 1)))), some (zi (nI (a + 1))), none] [] [zH, zG F1 G A1 B] 0 0 12) →
      ∀ (m b : Nat) (A1 : Nat → Nat → Int32), n - b < m → a < b → b ≤ n → frm [6, 52] A A1 → (∀ v, v < 24 → A1 6 v = skr n (nI c) (pidx n a b) v) → pAt n (pidx n a b) (A1 52) → Z X [some (zr 1 0), some (zi (nI n)), some (zi (nI c)), some (zi (nI (pidx n a b))), some (zi (nI a)), some (zi (nI b))] [] [zH, zG F1 G A1 B] 0 0 24 := by
    intro F1 a ha kk m
    induction m with
    | zero => intro b A1 hm; omega
    | succ m ih =>
      intro b A1 hm hab hbn hA hR hP
      have q0 := fun z => p_1 n hn a (by omega) b (by omega) hab z
      have e1 : pidx n a (b + 1) = pidx n a b + 1 := by show pcn n a + (b + 1 - a - 1) = pcn n a + (b - a - 1) + 1; omega
      have pp : b < n → pAt n (pidx n a b + 1) (zup2 (zup2 A1 52 (6 * a + b) (nI (pidx n a b))) 52 (6 * b + a) (nI (pidx n a b)) 52) := fun hb x y hxy hy hl => by
        rw [zup2_row]
        show (if 6 * x + y = 6 * b + a then _ else zup2 A1 52 _ _ 52 (6 * x + y)) = _ ∧ (if 6 * y + x = 6 * b + a then _ else zup2 A1 52 _ _ 52 (6 * y + x)) = _
        rw [zup2_row]
        show (if 6 * x + y = 6 * b + a then _ else if 6 * x + y = 6 * a + b then _ else A1 52 (6 * x + y)) = _ ∧ (if 6 * y + x = 6 * b + a then _ else if 6 * y + x = 6 * a + b then _ else A1 52 (6 * y + x)) = _
        obtain ⟨g1, g2, g3⟩ := p_1 n hn x (by omega) y (by omega) hxy hy
        obtain ⟨k1, k2, k3⟩ := q0 hb
        by_cases e : x = a ∧ y = b
        · obtain ⟨rfl, rfl⟩ := e
          rw [if_neg (by omega), if_pos rfl, if_pos rfl]; exact ⟨rfl, rfl⟩
        · have hne : pidx n x y ≠ pidx n a b := fun z => e ⟨by rw [← g2, z, k2], by rw [← g3, z, k3]⟩
          rw [if_neg (by omega), if_neg (by omega), if_neg (by omega), if_neg (by omega)]
          exact hP x y hxy hy (by omega)
      refine z_iload F dX6_sketches_24 rfl ?_
      refine z_iload_n F dX6_sketches_26 rfl ?_
      refine z_icmp_geN F (by omega) (by omega) (tgt := 84) dX6_sketches_27 (by decide) (fun c_27 => ?_) (fun c_27 => ?_)
      · have e : pidx n a b = pcn n (a + 1) := by rw [show b = n by omega]; show pcn n a + (n - a - 1) = pcn n a + (n - 1 - a); omega
        rw [e] at hP hR ⊢
        refine z_iincN F 1 dX6_sketches_84 rfl rfl ?_
        refine z_leq (L' := [_, _, _, _, _, _]) rfl ?_
        refine z_goto F (tgt := 12) dX6_sketches_87 (by decide) ?_
        refine z_loc _ ?_ (kk A1 hA hR hP)
        exact ⟨rfl, rfl, rfl, rfl, rfl, trivial⟩
      · obtain ⟨q1, q2, q3⟩ := q0 (by omega)
        have pp := pp (by omega)
        refine z_aload_n F dX6_sketches_30 rfl ?_
        refine z_ma F rfl 52 rfl (Nat.le_of_ble_eq_true rfl) rfl q1532 dX6_sketches_31 ?_
        refine z_bipush F (nI 6) dX6_sketches_34 rfl ?_
        refine z_iload F dX6_sketches_36 rfl ?_
        refine z_imulN F dX6_sketches_38 ?_
        refine z_iload F dX6_sketches_39 rfl ?_
        refine z_iaddN F dX6_sketches_41 ?_
        refine z_iload_n F dX6_sketches_42 rfl ?_
        refine z_iastGN F rfl rfl (Nat.le_of_ble_eq_true rfl) (by omega) dX6_sketches_43 ?_
        refine z_weq (w' := [_, _]) rfl ?_
        refine z_aload_n F dX6_sketches_44 rfl ?_
        refine z_ma F rfl 52 rfl (Nat.le_of_ble_eq_true rfl) rfl q1532 dX6_sketches_45 ?_
        refine z_bipush F (nI 6) dX6_sketches_48 rfl ?_
        refine z_iload F dX6_sketches_50 rfl ?_
        refine z_imulN F dX6_sketches_52 ?_
        refine z_iload F dX6_sketches_53 rfl ?_
        refine z_iaddN F dX6_sketches_55 ?_
        refine z_iload_n F dX6_sketches_56 rfl ?_
        refine z_iastGN F rfl rfl (Nat.le_of_ble_eq_true rfl) (by omega) dX6_sketches_57 ?_
        refine z_weq (w' := [_, _]) rfl ?_
        refine z_iload_n F dX6_sketches_58 rfl ?_
        refine z_iload_n F dX6_sketches_59 rfl ?_
        refine z_ishr F dX6_sketches_60 ?_
        refine z_iconst F (nI 1) dX6_sketches_61 rfl ?_
        refine z_iandB F (by omega) dX6_sketches_62 ?_
        refine z_iconst F (nI 1) dX6_sketches_63 rfl ?_
        refine z_icmp_neB F (tgt := 75) dX6_sketches_64 (by decide) (fun c_64 => ?_) (fun c_64 => ?_)
        · refine z_iincN F 1 dX6_sketches_75 rfl rfl ?_
          refine z_leq (L' := [_, _, _, _, _, _]) rfl ?_
          refine z_iincN F 1 dX6_sketches_78 rfl rfl ?_
          refine z_leq (L' := [_, _, _, _, _, _]) rfl ?_
          refine z_goto F (tgt := 24) dX6_sketches_81 (by decide) ?_
          have i1 := ih (b + 1) (zup2 (zup2 A1 52 (6 * a + b) (nI (pidx n a b))) 52 (6 * b + a) (nI (pidx n a b))) (by omega) (by omega) (by omega) (frm_zup (frm_zup hA (by decide)) (by decide)) (fun v hv => by rw [e1, skr, if_neg (by rw [c_64]; decide)]; exact hR v hv) (by rw [e1]; exact pp)
          rw [e1] at i1
          exact i1
        · refine z_aload_n F dX6_sketches_67 rfl ?_
          refine z_iload F dX6_sketches_68 rfl ?_
          refine z_iload F dX6_sketches_70 rfl ?_
          refine z_callV F (c_joins _ _ _ _ a b (by omega) (by omega)) 2 rfl (lw_V q1755 q1757 qs47 q117 q1758) (by decide +kernel) ⟨Nat.le_of_ble_eq_true rfl, Nat.le_of_ble_eq_true rfl⟩ ⟨by omega, by omega⟩ [0, 1] 2 ⟨rfl, rfl, rfl, ⟨Or.inl rfl, Or.inr rfl, trivial⟩⟩ (fun h => nomatch h) (Nat.le_of_ble_eq_true rfl) ⟨⟨Or.inr trivial, Or.inl rfl, trivial⟩, rfl, rfl, rfl, Nat.le_of_ble_eq_true rfl⟩ rfl zC6 (zat_G0 rfl) rfl dX6_sketches_72 (fun r_72 w_72 hp => ?_) (fun _ _ h => h.elim)
          obtain ⟨rfl, rfl⟩ := hp
          refine z_weq (w' := [zH, zG _ _ _ _]) rfl ?_
          refine z_seq (S' := []) rfl ?_
          refine z_iincN F 1 dX6_sketches_75 rfl rfl ?_
          refine z_leq (L' := [_, _, _, _, _, _]) rfl ?_
          refine z_iincN F 1 dX6_sketches_78 rfl rfl ?_
          refine z_leq (L' := [_, _, _, _, _, _]) rfl ?_
          refine z_goto F (tgt := 24) dX6_sketches_81 (by decide) ?_
          have i1 := ih (b + 1) (fA (zup2 (zup2 A1 52 (6 * a + b) (nI (pidx n a b))) 52 (6 * b + a) (nI (pidx n a b))) 6 (jn (zup2 (zup2 A1 52 (6 * a + b) (nI (pidx n a b))) 52 (6 * b + a) (nI (pidx n a b)) 6) a b)) (by omega) (by omega) (by omega) (frm_fA (frm_zup (frm_zup hA (by decide)) (by decide)) (by decide)) (fun v hv => by
            rw [e1, skr, if_pos c_64, q2, q3, fA_at]
            exact jn_cong hR (by omega) (by omega) hv) (by rw [e1]; exact pp)
          rw [e1] at i1
          exact i1
  have rows : ∀ (F1 : Nat → Int32), frm [4, 5] F0 F1 → F1 4 = nI n → ∀ (m a : Nat) (A1 : Nat → Nat → Int32), n - a < m → a ≤ n → frm [6, 52] A A1 → (∀ v, v < 24 → A1 6 v = skr n (nI c) (pcn n a) v) → pAt n (pcn n a) (A1 52) → Z X [some (zr 1 0), some (zi (nI n)), some (zi (nI c)), some (zi (nI (pcn n a))), some (zi (nI a)), none] [] [zH, zG F1 G A1 B] 0 0 12 := by
    intro F1 hF h4 m
    induction m with
    | zero => intro a A1 hm; omega
    | succ m ih =>
      intro a A1 hm ha hA hR hP
      have e : pidx n a (a + 1) = pcn n a := by show pcn n a + (a + 1 - a - 1) = pcn n a; omega
      refine z_iload F dX6_sketches_12 rfl ?_
      refine z_iload_n F dX6_sketches_14 rfl ?_
      refine z_icmp_geN F (by omega) (by omega) (tgt := 90) dX6_sketches_15 (by decide) (fun c_15 => ?_) (fun c_15 => ?_)
      · exact z_vret F E rfl dX6_sketches_90 (by omega) (by omega) (⟨rfl, F1, A1, rfl, hF, hA, h4, by rw [show a = n by omega] at hR; exact hR, by rw [show a = n by omega] at hP; exact hP⟩)
      · refine z_iload F dX6_sketches_18 rfl ?_
        refine z_iconst F (nI 1) dX6_sketches_20 rfl ?_
        refine z_iaddN F dX6_sketches_21 ?_
        refine z_istore F dX6_sketches_22 (Nat.le_of_ble_eq_true rfl) ?_
        refine z_leq (L' := [_, _, _, _, _, _]) rfl ?_
        have r1 := row F1 a (by omega) (fun A2 q1 q2 q3 => ih (a + 1) A2 (by omega) (by omega) q1 q2 q3) (n + 1) (a + 1) A1 (by omega) (by omega) (by omega) hA (by rw [e]; exact hR) (by rw [e]; exact hP)
        rw [e] at r1
        exact r1
  refine z_aload_n F dX6_sketches_0 rfl ?_
  refine z_iload_n F dX6_sketches_1 rfl ?_
  refine z_bipush F (nI 8) dX6_sketches_2 rfl ?_
  refine z_callV F (c_clears _ _ _ _ n (nI 8)) 2 rfl (lw_V q1720 q1722 qs40 q117 q1723) (by decide +kernel) ⟨Nat.le_of_ble_eq_true rfl, Nat.le_of_ble_eq_true rfl⟩ ⟨by omega, by omega⟩ [0, 1] 2 ⟨rfl, rfl, rfl, ⟨Or.inl rfl, Or.inr rfl, trivial⟩⟩ (fun h => nomatch h) (Nat.le_of_ble_eq_true rfl) ⟨⟨Or.inr trivial, Or.inl rfl, trivial⟩, rfl, rfl, rfl, Nat.le_of_ble_eq_true rfl⟩ rfl zC6 (zat_G0 rfl) rfl dX6_sketches_4 (fun r_4 w_4 hp => ?_) (fun _ _ h => h.elim)
  obtain ⟨rfl, F1, A1, rfl, f1, f2, f3⟩ := hp
  refine z_weq (w' := [zH, zG _ _ _ _]) rfl ?_
  refine z_seq (S' := []) rfl ?_
  refine z_iconst F (nI 0) dX6_sketches_7 rfl ?_
  refine z_istore_n F dX6_sketches_8 (Nat.le_of_ble_eq_true rfl) ?_
  refine z_leq (L' := [_, _, _, _, _, _]) rfl ?_
  refine z_iconst F (nI 0) dX6_sketches_9 rfl ?_
  refine z_istore F dX6_sketches_10 (Nat.le_of_ble_eq_true rfl) ?_
  refine z_leq (L' := [_, _, _, _, _, _]) rfl ?_
  exact rows F1 f1 f3.1 (n + 1) 0 A1 (by omega) (by omega) (f2.to (by decide)) f3.2.2 (fun x y _ _ z => absurd z (by rw [show pcn n 0 = 0 from rfl]; omega))
def ntd (R R' : Nat → Int32) (S : Nat → Prop) : Prop := ∀ v, v < 32768 → (S v → R' v = bI true) ∧ (¬ S v → R' v = R v)
theorem ntd_cg {R R' : Nat → Int32} {S T : Nat → Prop} (h : ntd R R' S) (e : ∀ v, v < 32768 → (S v ↔ T v)) : ntd R R' T := fun v hv => ⟨fun z => (h v hv).1 ((e v hv).mpr z), fun z => (h v hv).2 (fun y => z ((e v hv).mp y))⟩
theorem ntd_put {R : Nat → Int32} {A : Nat → Nat → Int32} {S : Nat → Prop} {j : Nat} (h : ntd R (A 51) S) : ntd R (zup2 A 51 j (vp_nar .boolean (nI 1)) 51) (fun v => S v ∨ v = j) := fun v hv => by
  rw [zup2_row]
  show (_ → (if v = j then _ else A 51 v) = _) ∧ (_ → (if v = j then _ else A 51 v) = _)
  refine ⟨fun z => ?_, fun z => ?_⟩
  · by_cases e : v = j
    · rw [if_pos e]; rfl
    · rw [if_neg e]; exact (h v hv).1 (z.elim id (fun y => absurd y e))
  · rw [if_neg (fun y => z (Or.inr y))]; exact (h v hv).2 (fun y => z (Or.inl y))
theorem c_mnotes (F0 : Nat → Int32) (G : Nat → Int64) (A : Nat → Nat → Int32) (B : Nat → Nat → Int64) (n c : Nat) (h1 : 1 ≤ n) (hn : n < 7) (hR : ∀ v, v < 24 → A 6 v = skr n (nI c) (pcn n n) v) (hP : pAt n (pcn n n) (A 52)) : zCtr yX6_notes cX6_notes 6 none 2 0 0 [zr 1 0, zi (nI n)] [zH, zG F0 G A B] (fun r w => r = none ∧ ∃ A', w = [zH, zG F0 G A' B] ∧ frm [51, 53] A A' ∧ ntd (A 51) (A' 51) (orb n c)) zNx := by
  refine z_start (by decide) [some (zr 1 0), some (zi (nI n)), none, none, none, none] rfl (fun _ => Nat.le_of_ble_eq_true rfl) (fun _ => rfl) (fun X F E hno hin => ?_)
  have h3 := (p_3 n hn).1
  have hpm : ∀ (A1 : Nat → Nat → Int32) x y, frm [51, 53] A A1 → x < n → y < n → x ≠ y → A1 52 (6 * x + y) = nI (pmx n x y) := fun A1 x y hA hx hy hxy => by
    rw [hA.at 52 rfl]
    rcases Nat.lt_or_ge x y with z | z
    · rw [(hP x y z hy (p_1 n hn x (by omega) y (by omega) z hy).1).1, show pmx n x y = pidx n x y from by show pidx n (min x y) (max x y) = _; rw [Nat.min_eq_left (by omega), Nat.max_eq_right (by omega)]]
    · rw [(hP y x (by omega) hx (p_1 n hn y (by omega) x (by omega) (by omega) hx).1).2, show pmx n x y = pidx n y x from by show pidx n (min x y) (max x y) = _; rw [Nat.min_eq_right (by omega), Nat.max_eq_left (by omega)]]
  have row : ∀ (p : Nat → Nat) (A1 : Nat → Nat → Int32), isP n p → frm [51, 53] A A1 → (∀ k, k < n → A1 53 k = nI (p k)) → ∀ (a : Nat), a < n → (Z X [some (zr 1 0), some (zi (nI n)), none, some (zi (img n (nI c) p (pcn n (a + 1)))), some (zi (nI (a + 1))), none] [] [zH, zG F0 G A1 B] 0 0 31) → ∀ (m b : Nat), n - b < m → a < b → b ≤ n → Z X [some (zr 1 0), some (zi (nI n)), none, some (zi (img n (nI c) p (pidx n a b))), some (zi (nI a)), some (zi (nI b))] [] [zH, zG F0 G A1 B] 0 0 43 := by
    intro p A1 hp0 hA hT a ha kk m
    induction m with
    | zero => intro b hm; omega
    | succ m ih =>
      intro b hm hab hbn
      have q0 := fun z => p_1 n hn a (by omega) b (by omega) hab z
      have e1 : pidx n a (b + 1) = pidx n a b + 1 := by show pcn n a + (b + 1 - a - 1) = pcn n a + (b - a - 1) + 1; omega
      have i1 := fun z => ih (b + 1) (by omega) (by omega) z
      rw [e1, img] at i1
      have ta := hT a ha
      have tb := fun z => hT b z
      have pa := hp0.1 a ha
      have pb := fun z => hp0.1 b z
      refine z_iload F dX6_notes_43 rfl ?_
      refine z_iload_n F dX6_notes_45 rfl ?_
      refine z_icmp_geN F (by omega) (by omega) (tgt := 94) dX6_notes_46 (by decide) (fun c_46 => ?_) (fun c_46 => ?_)
      · refine z_iincN F 1 dX6_notes_94 rfl rfl ?_
        refine z_leq (L' := [_, _, _, _, _, _]) rfl ?_
        refine z_goto F (tgt := 31) dX6_notes_97 (by decide) ?_
        have e : pidx n a b = pcn n (a + 1) := by rw [show b = n by omega]; show pcn n a + (n - a - 1) = pcn n a + (n - 1 - a); omega
        rw [e]
        refine z_loc _ ?_ kk
        exact ⟨rfl, rfl, rfl, rfl, trivial⟩
      · obtain ⟨q1, q2, q3⟩ := q0 (by omega)
        have tb := tb (by omega)
        have pb := pb (by omega)
        have i1 := i1 (by omega)
        have ne : p a ≠ p b := fun z => by have := hp0.2 a b (by omega) (by omega) z; omega
        have gp := hpm A1 (p a) (p b) hA pa pb ne
        rw [q2, q3] at i1
        refine z_aload_n F dX6_notes_49 rfl ?_
        refine z_iload F dX6_notes_50 rfl ?_
        refine z_iload F dX6_notes_52 rfl ?_
        refine z_callV F (c_isJoined _ _ _ _ a b (by omega) (by omega)) 2 rfl (lw_V q1748 q1750 qs46 q117 q1751) (by decide +kernel) ⟨Nat.le_of_ble_eq_true rfl, Nat.le_of_ble_eq_true rfl⟩ ⟨by omega, by omega⟩ [0, 1] 2 ⟨rfl, rfl, rfl, ⟨Or.inl rfl, Or.inr rfl, trivial⟩⟩ (fun h => nomatch h) (Nat.le_of_ble_eq_true rfl) ⟨⟨Or.inr trivial, Or.inl rfl, trivial⟩, rfl, rfl, rfl, Nat.le_of_ble_eq_true rfl⟩ rfl zC6 (zat_G0 rfl) rfl dX6_notes_54 (fun r_54 w_54 hp => ?_) (fun _ _ h => h.elim)
        obtain ⟨rfl, rfl⟩ := hp
        rw [hA.at 6 rfl, hR a (by omega), skr_at hn hab (by omega)]
        refine z_weq (w' := [zH, zG _ _ _ _]) rfl ?_
        refine z_seq (S' := zi _ :: _) rfl ?_
        refine z_if_eqB F (tgt := 88) dX6_notes_57 (by decide) (fun c_57 => ?_) (fun c_57 => ?_)
        · refine z_iincN F 1 dX6_notes_88 rfl rfl ?_
          refine z_leq (L' := [_, _, _, _, _, _]) rfl ?_
          refine z_goto F (tgt := 43) dX6_notes_91 (by decide) ?_
          rw [if_neg (by rw [c_57]; decide)] at i1
          exact i1
        · refine z_iload_n F dX6_notes_60 rfl ?_
          refine z_iconst F (nI 1) dX6_notes_61 rfl ?_
          refine z_aload_n F dX6_notes_62 rfl ?_
          refine z_ma F rfl 52 rfl (Nat.le_of_ble_eq_true rfl) rfl q1532 dX6_notes_63 ?_
          refine z_bipush F (nI 6) dX6_notes_66 rfl ?_
          refine z_aload_n F dX6_notes_68 rfl ?_
          refine z_ma F rfl 53 rfl (Nat.le_of_ble_eq_true rfl) rfl q1533 dX6_notes_69 ?_
          refine z_iload F dX6_notes_72 rfl ?_
          refine z_ialdGN F rfl rfl (Nat.le_of_ble_eq_true rfl) (by omega) rfl dX6_notes_74 ?_
          refine z_ieq (ta) ?_
          refine z_imulN F dX6_notes_75 ?_
          refine z_aload_n F dX6_notes_76 rfl ?_
          refine z_ma F rfl 53 rfl (Nat.le_of_ble_eq_true rfl) rfl q1533 dX6_notes_77 ?_
          refine z_iload F dX6_notes_80 rfl ?_
          refine z_ialdGN F rfl rfl (Nat.le_of_ble_eq_true rfl) (by omega) rfl dX6_notes_82 ?_
          refine z_ieq (tb) ?_
          refine z_iaddN F dX6_notes_83 ?_
          refine z_ialdGN F rfl rfl (Nat.le_of_ble_eq_true rfl) (by omega) rfl dX6_notes_84 ?_
          refine z_ieq (gp) ?_
          refine z_ishl F dX6_notes_85 ?_
          refine z_ior F dX6_notes_86 ?_
          refine z_istore_n F dX6_notes_87 (Nat.le_of_ble_eq_true rfl) ?_
          refine z_leq (L' := [_, _, _, _, _, _]) rfl ?_
          refine z_iincN F 1 dX6_notes_88 rfl rfl ?_
          refine z_leq (L' := [_, _, _, _, _, _]) rfl ?_
          refine z_goto F (tgt := 43) dX6_notes_91 (by decide) ?_
          rw [if_pos c_57] at i1
          exact i1
  have rows : ∀ (p : Nat → Nat) (A1 : Nat → Nat → Int32), isP n p → frm [51, 53] A A1 → (∀ k, k < n → A1 53 k = nI (p k)) → (Z X [some (zr 1 0), some (zi (nI n)), none, some (zi (img n (nI c) p (pcn n n))), none, none] [] [zH, zG F0 G A1 B] 0 0 100) → ∀ (m a : Nat), n - a < m → a ≤ n → Z X [some (zr 1 0), some (zi (nI n)), none, some (zi (img n (nI c) p (pcn n a))), some (zi (nI a)), none] [] [zH, zG F0 G A1 B] 0 0 31 := by
    intro p A1 hp0 hA hT kk m
    induction m with
    | zero => intro a hm; omega
    | succ m ih =>
      intro a hm ha
      have e : pidx n a (a + 1) = pcn n a := by show pcn n a + (a + 1 - a - 1) = pcn n a; omega
      refine z_iload F dX6_notes_31 rfl ?_
      refine z_iload_n F dX6_notes_33 rfl ?_
      refine z_icmp_geN F (by omega) (by omega) (tgt := 100) dX6_notes_34 (by decide) (fun c_34 => ?_) (fun c_34 => ?_)
      · rw [show a = n by omega]
        refine z_loc _ ?_ kk
        exact ⟨rfl, rfl, rfl, trivial⟩
      · refine z_iload F dX6_notes_37 rfl ?_
        refine z_iconst F (nI 1) dX6_notes_39 rfl ?_
        refine z_iaddN F dX6_notes_40 ?_
        refine z_istore F dX6_notes_41 (Nat.le_of_ble_eq_true rfl) ?_
        refine z_leq (L' := [_, _, _, _, _, _]) rfl ?_
        have r1 := row p A1 hp0 hA hT a (by omega) (ih (a + 1) (by omega) (by omega)) (n + 1) (a + 1) (by omega) (by omega) (by omega)
        rw [e] at r1
        exact r1
  have fin : ∀ (A1 : Nat → Nat → Int32), frm [51, 53] A A1 → ntd (A 51) (A1 51) (orb n c) → Z X [some (zr 1 0), some (zi (nI n)), some (zi (bI false)), none, none, none] [] [zH, zG F0 G A1 B] 0 0 22 := by
    intro A1 hA hN
    refine z_iload_n F dX6_notes_22 rfl ?_
    refine z_if_eqB F (tgt := 116) dX6_notes_23 (by decide) (fun c_23 => ?_) (fun c_23 => ?_)
    · exact z_vret F E rfl dX6_notes_116 (by omega) (by omega) (⟨rfl, A1, rfl, hA, hN⟩)
    · cases c_23
  have loop : ∀ (m : Nat) (p : Nat → Nat) (A1 : Nat → Nat → Int32), n ^ n - lxV n p n < m → isP n p → frm [51, 53] A A1 → (∀ k, k < n → A1 53 k = nI (p k)) → ntd (A 51) (A1 51) (fun v => ∃ q, isP n q ∧ lxL n q p ∧ nI v = img n (nI c) q (pcn n n)) → Z X [some (zr 1 0), some (zi (nI n)), some (zi (bI true)), none, none, none] [] [zH, zG F0 G A1 B] 0 0 22 := by
    intro m
    induction m with
    | zero => intro p A1 hm; omega
    | succ m ih =>
      intro p A1 hm hp0 hA hT hN
      obtain ⟨j, hj, ej⟩ := nI_bits2 (show pcn n n ≤ 31 by omega) (img_bits (c := nI c) hn hp0 _ (Nat.le_refl _))
      have hj2 : j < 32768 := Nat.lt_of_lt_of_le hj (Nat.pow_le_pow_right (n := 2) (by decide) h3)
      have hN2 := ntd_put (j := j) hN
      have at100 : Z X [some (zr 1 0), some (zi (nI n)), none, some (zi (img n (nI c) p (pcn n n))), none, none] [] [zH, zG F0 G A1 B] 0 0 100 := by
        rw [ej]
        have ev : ∀ v, v < 32768 → (nI v = img n (nI c) p (pcn n n) ↔ v = j) := fun v hv => by rw [ej]; exact nI_eq (by omega) (by omega)
        refine z_aload_n F dX6_notes_100 rfl ?_
        refine z_ma F rfl 51 rfl (Nat.le_of_ble_eq_true rfl) rfl q1531 dX6_notes_101 ?_
        refine z_iload_n F dX6_notes_104 rfl ?_
        refine z_iconst F (nI 1) dX6_notes_105 rfl ?_
        refine z_zastGN F rfl rfl (Nat.le_of_ble_eq_true rfl) (by omega) dX6_notes_106 ?_
        refine z_weq (w' := [_, _]) rfl ?_
        refine z_aload_n F dX6_notes_107 rfl ?_
        refine z_iload_n F dX6_notes_108 rfl ?_
        refine z_callV F (c_mturns F0 _ (zup2 A1 51 j (vp_nar .boolean (nI 1))) _ n p h1 (by omega) hp0 (fun k hk => hT k hk)) 1 rfl (lw_V q2006 q2008 qs84 q117 q2009) (by decide +kernel) ⟨Nat.le_of_ble_eq_true rfl, Nat.le_of_ble_eq_true rfl⟩ ⟨by omega, by omega⟩ [0, 1] 2 ⟨rfl, rfl, rfl, ⟨Or.inl rfl, Or.inr rfl, trivial⟩⟩ (fun h => nomatch h) (Nat.le_of_ble_eq_true rfl) ⟨⟨Or.inr trivial, Or.inl rfl, trivial⟩, rfl, rfl, rfl, Nat.le_of_ble_eq_true rfl⟩ rfl zC6 (zat_G0 rfl) rfl dX6_notes_109 (fun r_109 w_109 hp => ?_) (fun _ _ h => h.elim)
        rcases hp with ⟨rfl, rfl, hd⟩ | ⟨rfl, A2, i, j', rfl, hA2, hx, hT2⟩
        ·
          refine z_weq (w' := [zH, zG F0 G _ _]) rfl ?_
          refine z_seq (S' := [zi _]) rfl ?_
          refine z_istore_n F dX6_notes_112 (Nat.le_of_ble_eq_true rfl) ?_
          refine z_leq (L' := [_, _, _, _, _, _]) rfl ?_
          refine z_goto F (tgt := 22) dX6_notes_113 (by decide) ?_
          refine z_loc _ ?_ (fin _ (frm_zup hA (by decide)) (ntd_cg hN2 (fun v hv => ⟨fun z => ?_, fun z => ?_⟩)))
          · exact ⟨rfl, rfl, rfl, trivial⟩
          · rcases z with ⟨q, q1, _, q3⟩ | z
            · exact ⟨q, q1, q3⟩
            · exact ⟨p, hp0, (ev v hv).mpr z⟩
          · obtain ⟨q, q1, q3⟩ := z
            rcases lxL_tri n p q with e | e | e
            · exact Or.inr ((ev v hv).mp (by rw [q3, img_cong hn e _ (Nat.le_refl _)]))
            · exact absurd e (nxR_last hd hp0 q1)
            · exact Or.inl ⟨q, q1, e, q3⟩
        refine z_weq (w' := [zH, zG F0 G _ _]) rfl ?_
        refine z_seq (S' := [zi _]) rfl ?_
        have hpn := nxR_P hx hp0
        have hvl := lxV_L hp0 hpn (nxR_lt hx)
        have hvb := lxV_lt hpn.1 n (Nat.le_refl _)
        refine z_istore_n F dX6_notes_112 (Nat.le_of_ble_eq_true rfl) ?_
        refine z_leq (L' := [_, _, _, _, _, _]) rfl ?_
        refine z_goto F (tgt := 22) dX6_notes_113 (by decide) ?_
        refine z_loc _ ?_ (ih (nxR n i j' p) A2 (by omega) hpn ((frm_zup hA (by decide)).tr hA2 (by decide) (by decide)) hT2 ?_)
        · exact ⟨rfl, rfl, rfl, trivial⟩
        · rw [hA2.at 51 rfl]
          refine ntd_cg hN2 (fun v hv => ⟨fun z => ?_, fun z => ?_⟩)
          · rcases z with ⟨q, q1, q2, q3⟩ | z
            · exact ⟨q, q1, lxL_tr q2 (nxR_lt hx), q3⟩
            · exact ⟨p, hp0, nxR_lt hx, (ev v hv).mpr z⟩
          · obtain ⟨q, q1, q2, q3⟩ := z
            rcases lxL_tri n p q with e | e | e
            · exact Or.inr ((ev v hv).mp (by rw [q3, img_cong hn e _ (Nat.le_refl _)]))
            · rcases nxR_next hx hp0 q1 e with w | w
              · exact absurd (lxL_cong (fun _ _ => rfl) w q2) lxL_irr
              · exact absurd (lxL_tr q2 w) lxL_irr
            · exact Or.inl ⟨q, q1, e, q3⟩
      refine z_iload_n F dX6_notes_22 rfl ?_
      refine z_if_eqB F (tgt := 116) dX6_notes_23 (by decide) (fun c_23 => ?_) (fun c_23 => ?_)
      · cases c_23
      · refine z_loc [some (zr 1 0), some (zi (nI n)), none, none, none, none] ⟨rfl, rfl, trivial⟩ ?_
        refine z_iconst F (nI 0) dX6_notes_26 rfl ?_
        refine z_istore_n F dX6_notes_27 (Nat.le_of_ble_eq_true rfl) ?_
        refine z_leq (L' := [_, _, _, _, _, _]) rfl ?_
        refine z_iconst F (nI 0) dX6_notes_28 rfl ?_
        refine z_istore F dX6_notes_29 (Nat.le_of_ble_eq_true rfl) ?_
        refine z_leq (L' := [_, _, _, _, _, _]) rfl ?_
        exact rows p A1 hp0 hA hT at100 (n + 1) 0 (by omega) (by omega)
  have idl : ∀ (m k : Nat) (A1 : Nat → Nat → Int32), n - k < m → k ≤ n → frm [51, 53] A A1 → (∀ i, i < k → A1 53 i = nI i) → A1 51 = A 51 → Z X [some (zr 1 0), some (zi (nI n)), some (zi (nI k)), none, none, none] [] [zH, zG F0 G A1 B] 0 0 2 := by
    intro m
    induction m with
    | zero => intro k A1 hm; omega
    | succ m ih =>
      intro k A1 hm hk hA hT hN
      have hvb := lxV_lt (isP_id n).1 n (Nat.le_refl _)
      refine z_iload_n F dX6_notes_2 rfl ?_
      refine z_iload_n F dX6_notes_3 rfl ?_
      refine z_icmp_geN F (by omega) (by omega) (tgt := 20) dX6_notes_4 (by decide) (fun c_4 => ?_) (fun c_4 => ?_)
      · refine z_iconstB F true dX6_notes_20 rfl ?_
        refine z_istore_n F dX6_notes_21 (Nat.le_of_ble_eq_true rfl) ?_
        refine z_leq (L' := [_, _, _, _, _, _]) rfl ?_
        exact loop _ (fun i => i) A1 (Nat.lt_succ_self _) (isP_id n) hA (fun i hi => hT i (by omega)) (fun v _ => ⟨fun ⟨q, q1, q2, _⟩ => by
          exfalso
          rcases lx_id q1 with e | e
          · exact lxL_irr (lxL_cong (fun k hk => (e k hk).symm) (fun _ _ => rfl) q2)
          · exact lxL_irr (lxL_tr q2 e), fun _ => by rw [hN]⟩)
      · refine z_aload_n F dX6_notes_7 rfl ?_
        refine z_ma F rfl 53 rfl (Nat.le_of_ble_eq_true rfl) rfl q1533 dX6_notes_8 ?_
        refine z_iload_n F dX6_notes_11 rfl ?_
        refine z_iload_n F dX6_notes_12 rfl ?_
        refine z_iastGN F rfl rfl (Nat.le_of_ble_eq_true rfl) (by omega) dX6_notes_13 ?_
        refine z_weq (w' := [_, _]) rfl ?_
        refine z_iincN F 1 dX6_notes_14 rfl rfl ?_
        refine z_leq (L' := [_, _, _, _, _, _]) rfl ?_
        refine z_goto F (tgt := 2) dX6_notes_17 (by decide) ?_
        exact ih (k + 1) _ (by omega) (by omega) (frm_zup hA (by decide)) (fun i hi => by
          rw [zup2_row]
          show (if i = k then _ else A1 53 i) = _
          by_cases e : i = k
          · rw [if_pos e, e]
          · rw [if_neg e]; exact hT i (by omega)) hN
  refine z_iconst F (nI 0) dX6_notes_0 rfl ?_
  refine z_istore_n F dX6_notes_1 (Nat.le_of_ble_eq_true rfl) ?_
  refine z_leq (L' := [_, _, _, _, _, _]) rfl ?_
  exact idl (n + 1) 0 A (by omega) (by omega) frm.rf (fun i hi => absurd hi (by omega)) rfl
end C9m
