/-! read: the reader's clause (gena4.py) -/
section CA4
theorem dj3 (d : Nat) (f : Nat → Int32) (a b : Nat) : (bt (f a) b = false ∧ mayJ f d a b = true ∧ dj d (.inl f) a b = .inl (jn f a b)) ∨ (bt (f a) b = true ∧ dj d (.inl f) a b = .inr 5) ∨ (bt (f a) b = false ∧ mayJ f d a b = false ∧ dj d (.inl f) a b = .inr 6) := by
  cases h1 : bt (f a) b with
  | true => exact Or.inr (Or.inl ⟨rfl, by unfold dj; exact if_pos h1⟩)
  | false =>
    have h2 : ¬ bt (f a) b = true := by rw [h1]; decide
    cases h3 : mayJ f d a b with
    | true => exact Or.inl ⟨rfl, rfl, by unfold dj; exact (if_neg h2).trans (if_pos h3)⟩
    | false => exact Or.inr (Or.inr ⟨rfl, rfl, by unfold dj; exact (if_neg h2).trans (if_neg (by rw [h3]; decide))⟩)
abbrev TS (tb : Nat → Nat) (z u b : Nat) : Prop := u ≤ 10000 ∧ (kd tb z b = 2 → u = nvd tb b (en tb z b - b))
theorem nuV_ok {tb : Nat → Nat} {z b u : Nat} (hu : u ≤ 10000) : TS tb z (nuV tb z b u) b := by
  unfold nuV
  split
  · exact ⟨nvd_le _, fun _ => rfl⟩
  · exact ⟨hu, fun w => absurd w (by assumption)⟩
theorem kn1_0 {tb : Nat → Nat} {z n b m : Nat} {l : Nat → Nat} (h : knE tb z n l m b = 0) : kn1 tb z n (0, b, l, m) = (0, nb tb z b, lput l m (rv tb z b), m + 1) := by
  unfold kn1
  rw [if_neg (fun w => w rfl), if_pos h]
theorem kn1_e {tb : Nat → Nat} {z n b m : Nat} {l : Nat → Nat} (h : knE tb z n l m b ≠ 0) : kn1 tb z n (0, b, l, m) = (knE tb z n l m b, b, l, m) := by
  unfold kn1
  rw [if_neg (fun w => w rfl), if_neg h]
theorem kn1_st {tb : Nat → Nat} {z n : Nat} {s : kS} (h : s.1 ≠ 0) : kn1 tb z n s = s := if_pos h
theorem clS_e {tb : Nat → Nat} {z n d c b i e b1 m : Nat} {f : Nat → Int32} {l : Nat → Nat} (hk : kwI tb z b = some i) (hi : ¬ 4 < i) (hc : c ≠ 20) (h : clK tb z n i b = (e, b1, l, m)) (he : e ≠ 0) : clS tb z n d f c b = (e, b1, f) := by
  unfold clS
  rw [hk]
  refine (if_neg hi).trans ((if_neg hc).trans ?_)
  rw [h]
  unfold clE
  exact if_pos he
theorem clS_3 {tb : Nat → Nat} {z n d c b i b1 m : Nat} {f : Nat → Int32} {l : Nat → Nat} (hk : kwI tb z b = some i) (hi : ¬ 4 < i) (hc : c ≠ 20) (h : clK tb z n i b = (0, b1, l, m)) (h3 : kd tb z b1 ≠ 3) : clS tb z n d f c b = (1, b1, f) := by
  unfold clS
  rw [hk]
  refine (if_neg hi).trans ((if_neg hc).trans ?_)
  rw [h]
  unfold clE
  exact (if_neg (fun w => w rfl)).trans (if_pos h3)
theorem clS_r {tb : Nat → Nat} {z n d c b i b1 m e : Nat} {f : Nat → Int32} {l : Nat → Nat} (hk : kwI tb z b = some i) (hi : ¬ 4 < i) (hc : c ≠ 20) (h : clK tb z n i b = (0, b1, l, m)) (h3 : kd tb z b1 = 3) (hl : lnR d i l m f = .inr e) : clS tb z n d f c b = (e, b1, f) := by
  unfold clS
  rw [hk]
  refine (if_neg hi).trans ((if_neg hc).trans ?_)
  rw [h]
  unfold clE
  refine (if_neg (fun w => w rfl)).trans ((if_neg (fun w => w h3)).trans ?_)
  show (match lnR d i l m f with | .inr e => ((e, b1, f) : ccS) | .inl g => (0, nb tb z b1, g)) = _
  rw [hl]
theorem clS_l {tb : Nat → Nat} {z n d c b i b1 m : Nat} {f f1 : Nat → Int32} {l : Nat → Nat} (hk : kwI tb z b = some i) (hi : ¬ 4 < i) (hc : c ≠ 20) (h : clK tb z n i b = (0, b1, l, m)) (h3 : kd tb z b1 = 3) (hl : lnR d i l m f = .inl f1) : clS tb z n d f c b = (0, nb tb z b1, f1) := by
  unfold clS
  rw [hk]
  refine (if_neg hi).trans ((if_neg hc).trans ?_)
  rw [h]
  unfold clE
  refine (if_neg (fun w => w rfl)).trans ((if_neg (fun w => w h3)).trans ?_)
  show (match lnR d i l m f with | .inr e => ((e, b1, f) : ccS) | .inl g => (0, nb tb z b1, g)) = _
  rw [hl]

theorem c_clauseG (Dg : va_G) (t : Nat) (fp : Int32) (T : Nat → Int32) (n d : Nat) (f g : Nat → Int32) (tb : Nat → Nat) (z b u m0 c : Nat) {post : Option zV → List zE → Prop} {xpost : String → List zE → Prop} {mc ms : Nat} (hz : z ≤ 400) (hT : tBy T tb z) (htb : ∀ i, tb i < 256) (hb : b ≤ z) (hc : c ≤ 20) (hu : TS tb z u b) (hf : nok n d f)
    (ht : (clS tb z n d f c b).1 = 0 → ∀ u' m' g', TS tb z u' (clS tb z n d f c b).2.1 → post none (rTB t fp T n d (clS tb z n d f c b).2.2 g' tb z (clS tb z n d f c b).2.1 u' m' (c + 1)))
    (hx : (clS tb z n d f c b).1 ≠ 0 → 1 ≤ mc ∧ 7 ≤ ms ∧ ∀ f' g' u' m' c', xpost eWrg (rTB t fp T n d f' g' tb z (clS tb z n d f c b).2.1 u' m' c' ++ [eWr (clS tb z n d f c b).1])) : zCtrD Dg yX7_clause cX7_clause 8 none 6 mc ms [zr 22 0] (rTB t fp T n d f g tb z b u m0 c) post xpost := by
  refine z_startD (by decide) [some (zr 22 0), none, none, none, none, none, none, none] rfl (fun _ => Nat.le_of_ble_eq_true rfl) (fun _ => rfl) (fun X hD F E hno hin => ?_)
  subst hD
  have hn24 := hf.n24
  have hd8 := hf.d8
  have fail : ∀ e b1, clS tb z n d f c b = (e, b1, f) → e ≠ 0 → 1 ≤ mc ∧ 7 ≤ ms ∧ ∀ f' g' u' m' c', xpost eWrg (rTB t fp T n d f' g' tb z b1 u' m' c' ++ [eWr e]) := fun e b1 h he => by
    rw [h] at hx
    exact hx he
  have good : ∀ b1 f1, clS tb z n d f c b = (0, b1, f1) → ∀ u' m' g', TS tb z u' b1 → post none (rTB t fp T n d f1 g' tb z b1 u' m' (c + 1)) := fun b1 f1 h => by
    rw [h] at ht
    exact ht rfl
  rcases hk : kwI tb z b with _ | i
  · obtain ⟨k1, k2, k3⟩ := fail 1 b (by unfold clS; rw [hk]) (by decide)
    have hw : ∀ {j}, j < 7 → isWb tb z b j = false := fun q => kwI_none hk q
    refine z_aload_n F dX7_clause_0 rfl ?_
    refine z_ldcS F (F.con.2.2.2.2.2.2.2.2.2.1 (ksI 0) (ksI_lt (by decide))) dX7_clause_1 ?_
    refine z_callVD F (c_isB _ t fp T n d f g z b u m0 c 0 tb hz hT hb (by omega)) 1 rfl (lw_V q626 q628 qs7 q125 q629) (by decide +kernel) ⟨Nat.le_of_ble_eq_true rfl, Nat.le_of_ble_eq_true rfl⟩ ⟨by omega, by omega⟩ [0, 1, 2, 3, 4, 5, 6, 7, 8, 9, 10, 11, 12, 13, 14, 15, 16, 17, 18, 19, 20, 21, 22, 23, 24, 25] 26 ⟨rfl, rfl, rfl, ⟨Or.inl rfl, Or.inr rfl, Or.inr rfl, Or.inl rfl, Or.inl rfl, Or.inl rfl, Or.inl rfl, Or.inl rfl, Or.inl rfl, Or.inl rfl, Or.inl rfl, Or.inl rfl, Or.inl rfl, Or.inl rfl, Or.inl rfl, Or.inl rfl, Or.inl rfl, Or.inl rfl, Or.inl rfl, Or.inl rfl, Or.inl rfl, Or.inl rfl, Or.inr rfl, Or.inr rfl, Or.inr rfl, Or.inr rfl, trivial⟩⟩ (fun h => nomatch h) (Nat.le_of_ble_eq_true rfl) ⟨⟨Or.inr trivial, Or.inl rfl, Or.inl rfl, Or.inr trivial, Or.inr trivial, Or.inr trivial, Or.inr trivial, Or.inr trivial, Or.inr trivial, Or.inr trivial, Or.inr trivial, Or.inr trivial, Or.inr trivial, Or.inr trivial, Or.inr trivial, Or.inr trivial, Or.inr trivial, Or.inr trivial, Or.inr trivial, Or.inr trivial, Or.inr trivial, Or.inr trivial, Or.inl rfl, Or.inl rfl, Or.inl rfl, Or.inl rfl, trivial⟩, rfl, rfl, rfl, Nat.le_of_ble_eq_true rfl⟩ rfl zC7 rfl rfl dX7_clause_3 (fun r_3 w_3 hp => ?_) (fun _ _ h => h.elim)
    obtain ⟨rfl, rfl⟩ := hp
    rw [hw (show 0 < 7 by omega)]
    refine z_weq (w' := [zH, zO _ [zr _ _, zr _ _, zr _ _, zr _ _, zr _ _, zi _, zi _, zr _ _, zr _ _], zAi 3 400 _, zH, zH, zH, zH, zH, zH, zH, zH, zH, zH, zH, zH, zH, zH, zH, zH, zH, zH, zH, zO _ [zi _, zr _ _, zi _, zi _, zi _, zi _, zi _, zi _, zr _ _, zi _, zr _ _], zAi 0 12 _, zO _ [zi _, zi _, zr _ _], zAi 0 24 _]) rfl ?_
    refine z_seq (S' := zi _ :: _) rfl ?_
    refine z_istore_n F dX7_clause_6 (Nat.le_of_ble_eq_true rfl) ?_
    refine z_leq (L' := [_, _, _, _, _, _, _, _]) rfl ?_
    refine z_aload_n F dX7_clause_7 rfl ?_
    refine z_ldcS F (F.con.2.2.2.2.2.2.2.2.2.1 (ksI 1) (ksI_lt (by decide))) dX7_clause_8 ?_
    refine z_callVD F (c_isB _ t fp T n d f g z b u m0 c 1 tb hz hT hb (by omega)) 1 rfl (lw_V q626 q628 qs7 q125 q629) (by decide +kernel) ⟨Nat.le_of_ble_eq_true rfl, Nat.le_of_ble_eq_true rfl⟩ ⟨by omega, by omega⟩ [0, 1, 2, 3, 4, 5, 6, 7, 8, 9, 10, 11, 12, 13, 14, 15, 16, 17, 18, 19, 20, 21, 22, 23, 24, 25] 26 ⟨rfl, rfl, rfl, ⟨Or.inl rfl, Or.inr rfl, Or.inr rfl, Or.inl rfl, Or.inl rfl, Or.inl rfl, Or.inl rfl, Or.inl rfl, Or.inl rfl, Or.inl rfl, Or.inl rfl, Or.inl rfl, Or.inl rfl, Or.inl rfl, Or.inl rfl, Or.inl rfl, Or.inl rfl, Or.inl rfl, Or.inl rfl, Or.inl rfl, Or.inl rfl, Or.inl rfl, Or.inr rfl, Or.inr rfl, Or.inr rfl, Or.inr rfl, trivial⟩⟩ (fun h => nomatch h) (Nat.le_of_ble_eq_true rfl) ⟨⟨Or.inr trivial, Or.inl rfl, Or.inl rfl, Or.inr trivial, Or.inr trivial, Or.inr trivial, Or.inr trivial, Or.inr trivial, Or.inr trivial, Or.inr trivial, Or.inr trivial, Or.inr trivial, Or.inr trivial, Or.inr trivial, Or.inr trivial, Or.inr trivial, Or.inr trivial, Or.inr trivial, Or.inr trivial, Or.inr trivial, Or.inr trivial, Or.inr trivial, Or.inl rfl, Or.inl rfl, Or.inl rfl, Or.inl rfl, trivial⟩, rfl, rfl, rfl, Nat.le_of_ble_eq_true rfl⟩ rfl zC7 rfl rfl dX7_clause_10 (fun r_10 w_10 hp => ?_) (fun _ _ h => h.elim)
    obtain ⟨rfl, rfl⟩ := hp
    rw [hw (show 1 < 7 by omega)]
    refine z_weq (w' := [zH, zO _ [zr _ _, zr _ _, zr _ _, zr _ _, zr _ _, zi _, zi _, zr _ _, zr _ _], zAi 3 400 _, zH, zH, zH, zH, zH, zH, zH, zH, zH, zH, zH, zH, zH, zH, zH, zH, zH, zH, zH, zO _ [zi _, zr _ _, zi _, zi _, zi _, zi _, zi _, zi _, zr _ _, zi _, zr _ _], zAi 0 12 _, zO _ [zi _, zi _, zr _ _], zAi 0 24 _]) rfl ?_
    refine z_seq (S' := zi _ :: _) rfl ?_
    refine z_istore_n F dX7_clause_13 (Nat.le_of_ble_eq_true rfl) ?_
    refine z_leq (L' := [_, _, _, _, _, _, _, _]) rfl ?_
    refine z_aload_n F dX7_clause_14 rfl ?_
    refine z_ldcS F (F.con.2.2.2.2.2.2.2.2.2.1 (ksI 2) (ksI_lt (by decide))) dX7_clause_15 ?_
    refine z_callVD F (c_isB _ t fp T n d f g z b u m0 c 2 tb hz hT hb (by omega)) 1 rfl (lw_V q626 q628 qs7 q125 q629) (by decide +kernel) ⟨Nat.le_of_ble_eq_true rfl, Nat.le_of_ble_eq_true rfl⟩ ⟨by omega, by omega⟩ [0, 1, 2, 3, 4, 5, 6, 7, 8, 9, 10, 11, 12, 13, 14, 15, 16, 17, 18, 19, 20, 21, 22, 23, 24, 25] 26 ⟨rfl, rfl, rfl, ⟨Or.inl rfl, Or.inr rfl, Or.inr rfl, Or.inl rfl, Or.inl rfl, Or.inl rfl, Or.inl rfl, Or.inl rfl, Or.inl rfl, Or.inl rfl, Or.inl rfl, Or.inl rfl, Or.inl rfl, Or.inl rfl, Or.inl rfl, Or.inl rfl, Or.inl rfl, Or.inl rfl, Or.inl rfl, Or.inl rfl, Or.inl rfl, Or.inl rfl, Or.inr rfl, Or.inr rfl, Or.inr rfl, Or.inr rfl, trivial⟩⟩ (fun h => nomatch h) (Nat.le_of_ble_eq_true rfl) ⟨⟨Or.inr trivial, Or.inl rfl, Or.inl rfl, Or.inr trivial, Or.inr trivial, Or.inr trivial, Or.inr trivial, Or.inr trivial, Or.inr trivial, Or.inr trivial, Or.inr trivial, Or.inr trivial, Or.inr trivial, Or.inr trivial, Or.inr trivial, Or.inr trivial, Or.inr trivial, Or.inr trivial, Or.inr trivial, Or.inr trivial, Or.inr trivial, Or.inr trivial, Or.inl rfl, Or.inl rfl, Or.inl rfl, Or.inl rfl, trivial⟩, rfl, rfl, rfl, Nat.le_of_ble_eq_true rfl⟩ rfl zC7 rfl rfl dX7_clause_17 (fun r_17 w_17 hp => ?_) (fun _ _ h => h.elim)
    obtain ⟨rfl, rfl⟩ := hp
    rw [hw (show 2 < 7 by omega)]
    refine z_weq (w' := [zH, zO _ [zr _ _, zr _ _, zr _ _, zr _ _, zr _ _, zi _, zi _, zr _ _, zr _ _], zAi 3 400 _, zH, zH, zH, zH, zH, zH, zH, zH, zH, zH, zH, zH, zH, zH, zH, zH, zH, zH, zH, zO _ [zi _, zr _ _, zi _, zi _, zi _, zi _, zi _, zi _, zr _ _, zi _, zr _ _], zAi 0 12 _, zO _ [zi _, zi _, zr _ _], zAi 0 24 _]) rfl ?_
    refine z_seq (S' := zi _ :: _) rfl ?_
    refine z_istore_n F dX7_clause_20 (Nat.le_of_ble_eq_true rfl) ?_
    refine z_leq (L' := [_, _, _, _, _, _, _, _]) rfl ?_
    refine z_aload_n F dX7_clause_21 rfl ?_
    refine z_ldcS F (F.con.2.2.2.2.2.2.2.2.2.1 (ksI 3) (ksI_lt (by decide))) dX7_clause_22 ?_
    refine z_callVD F (c_isB _ t fp T n d f g z b u m0 c 3 tb hz hT hb (by omega)) 1 rfl (lw_V q626 q628 qs7 q125 q629) (by decide +kernel) ⟨Nat.le_of_ble_eq_true rfl, Nat.le_of_ble_eq_true rfl⟩ ⟨by omega, by omega⟩ [0, 1, 2, 3, 4, 5, 6, 7, 8, 9, 10, 11, 12, 13, 14, 15, 16, 17, 18, 19, 20, 21, 22, 23, 24, 25] 26 ⟨rfl, rfl, rfl, ⟨Or.inl rfl, Or.inr rfl, Or.inr rfl, Or.inl rfl, Or.inl rfl, Or.inl rfl, Or.inl rfl, Or.inl rfl, Or.inl rfl, Or.inl rfl, Or.inl rfl, Or.inl rfl, Or.inl rfl, Or.inl rfl, Or.inl rfl, Or.inl rfl, Or.inl rfl, Or.inl rfl, Or.inl rfl, Or.inl rfl, Or.inl rfl, Or.inl rfl, Or.inr rfl, Or.inr rfl, Or.inr rfl, Or.inr rfl, trivial⟩⟩ (fun h => nomatch h) (Nat.le_of_ble_eq_true rfl) ⟨⟨Or.inr trivial, Or.inl rfl, Or.inl rfl, Or.inr trivial, Or.inr trivial, Or.inr trivial, Or.inr trivial, Or.inr trivial, Or.inr trivial, Or.inr trivial, Or.inr trivial, Or.inr trivial, Or.inr trivial, Or.inr trivial, Or.inr trivial, Or.inr trivial, Or.inr trivial, Or.inr trivial, Or.inr trivial, Or.inr trivial, Or.inr trivial, Or.inr trivial, Or.inl rfl, Or.inl rfl, Or.inl rfl, Or.inl rfl, trivial⟩, rfl, rfl, rfl, Nat.le_of_ble_eq_true rfl⟩ rfl zC7 rfl rfl dX7_clause_24 (fun r_24 w_24 hp => ?_) (fun _ _ h => h.elim)
    obtain ⟨rfl, rfl⟩ := hp
    rw [hw (show 3 < 7 by omega)]
    refine z_weq (w' := [zH, zO _ [zr _ _, zr _ _, zr _ _, zr _ _, zr _ _, zi _, zi _, zr _ _, zr _ _], zAi 3 400 _, zH, zH, zH, zH, zH, zH, zH, zH, zH, zH, zH, zH, zH, zH, zH, zH, zH, zH, zH, zO _ [zi _, zr _ _, zi _, zi _, zi _, zi _, zi _, zi _, zr _ _, zi _, zr _ _], zAi 0 12 _, zO _ [zi _, zi _, zr _ _], zAi 0 24 _]) rfl ?_
    refine z_seq (S' := zi _ :: _) rfl ?_
    refine z_istore F dX7_clause_27 (Nat.le_of_ble_eq_true rfl) ?_
    refine z_leq (L' := [_, _, _, _, _, _, _, _]) rfl ?_
    refine z_aload_n F dX7_clause_29 rfl ?_
    refine z_ldcS F (F.con.2.2.2.2.2.2.2.2.2.1 (ksI 4) (ksI_lt (by decide))) dX7_clause_30 ?_
    refine z_callVD F (c_isB _ t fp T n d f g z b u m0 c 4 tb hz hT hb (by omega)) 1 rfl (lw_V q626 q628 qs7 q125 q629) (by decide +kernel) ⟨Nat.le_of_ble_eq_true rfl, Nat.le_of_ble_eq_true rfl⟩ ⟨by omega, by omega⟩ [0, 1, 2, 3, 4, 5, 6, 7, 8, 9, 10, 11, 12, 13, 14, 15, 16, 17, 18, 19, 20, 21, 22, 23, 24, 25] 26 ⟨rfl, rfl, rfl, ⟨Or.inl rfl, Or.inr rfl, Or.inr rfl, Or.inl rfl, Or.inl rfl, Or.inl rfl, Or.inl rfl, Or.inl rfl, Or.inl rfl, Or.inl rfl, Or.inl rfl, Or.inl rfl, Or.inl rfl, Or.inl rfl, Or.inl rfl, Or.inl rfl, Or.inl rfl, Or.inl rfl, Or.inl rfl, Or.inl rfl, Or.inl rfl, Or.inl rfl, Or.inr rfl, Or.inr rfl, Or.inr rfl, Or.inr rfl, trivial⟩⟩ (fun h => nomatch h) (Nat.le_of_ble_eq_true rfl) ⟨⟨Or.inr trivial, Or.inl rfl, Or.inl rfl, Or.inr trivial, Or.inr trivial, Or.inr trivial, Or.inr trivial, Or.inr trivial, Or.inr trivial, Or.inr trivial, Or.inr trivial, Or.inr trivial, Or.inr trivial, Or.inr trivial, Or.inr trivial, Or.inr trivial, Or.inr trivial, Or.inr trivial, Or.inr trivial, Or.inr trivial, Or.inr trivial, Or.inr trivial, Or.inl rfl, Or.inl rfl, Or.inl rfl, Or.inl rfl, trivial⟩, rfl, rfl, rfl, Nat.le_of_ble_eq_true rfl⟩ rfl zC7 rfl rfl dX7_clause_32 (fun r_32 w_32 hp => ?_) (fun _ _ h => h.elim)
    obtain ⟨rfl, rfl⟩ := hp
    rw [hw (show 4 < 7 by omega)]
    refine z_weq (w' := [zH, zO _ [zr _ _, zr _ _, zr _ _, zr _ _, zr _ _, zi _, zi _, zr _ _, zr _ _], zAi 3 400 _, zH, zH, zH, zH, zH, zH, zH, zH, zH, zH, zH, zH, zH, zH, zH, zH, zH, zH, zH, zO _ [zi _, zr _ _, zi _, zi _, zi _, zi _, zi _, zi _, zr _ _, zi _, zr _ _], zAi 0 12 _, zO _ [zi _, zi _, zr _ _], zAi 0 24 _]) rfl ?_
    refine z_seq (S' := zi _ :: _) rfl ?_
    refine z_istore F dX7_clause_35 (Nat.le_of_ble_eq_true rfl) ?_
    refine z_leq (L' := [_, _, _, _, _, _, _, _]) rfl ?_
    refine z_aload_n F dX7_clause_37 rfl ?_
    refine z_iload_n F dX7_clause_38 rfl ?_
    refine z_if_neB F (tgt := 60) dX7_clause_39 (by decide) (fun c_39 => ?_) (fun c_39 => ?_)
    · cases c_39
    · refine z_iload_n F dX7_clause_42 rfl ?_
      refine z_if_neB F (tgt := 60) dX7_clause_43 (by decide) (fun c_43 => ?_) (fun c_43 => ?_)
      · cases c_43
      · refine z_iload_n F dX7_clause_46 rfl ?_
        refine z_if_neB F (tgt := 60) dX7_clause_47 (by decide) (fun c_47 => ?_) (fun c_47 => ?_)
        · cases c_47
        · refine z_iload F dX7_clause_50 rfl ?_
          refine z_if_neB F (tgt := 60) dX7_clause_52 (by decide) (fun c_52 => ?_) (fun c_52 => ?_)
          · cases c_52
          · refine z_iload F dX7_clause_55 rfl ?_
            refine z_if_eqB F (tgt := 64) dX7_clause_57 (by decide) (fun c_57 => ?_) (fun c_57 => ?_)
            · refine z_iconstB F false dX7_clause_64 rfl ?_
              refine z_iconst F (nI 1) dX7_clause_65 rfl ?_
              refine z_callVH F (c_want_f 1) 2 rfl (lw_V q678 q680 qs8 q125 q681) (by decide +kernel) ⟨Nat.le_of_ble_eq_true rfl, Nat.le_of_ble_eq_true rfl⟩ ⟨by omega, by omega⟩ [0, 22] 26 ⟨rfl, rfl, rfl, ⟨Or.inl rfl, Or.inl rfl, trivial⟩⟩ (fun h => nomatch h) (Nat.le_of_ble_eq_true rfl) ⟨⟨Or.inr trivial, Or.inr rfl, Or.inr trivial, Or.inr trivial, Or.inr trivial, Or.inr trivial, Or.inr trivial, Or.inr trivial, Or.inr trivial, Or.inr trivial, Or.inr trivial, Or.inr trivial, Or.inr trivial, Or.inr trivial, Or.inr trivial, Or.inr trivial, Or.inr trivial, Or.inr trivial, Or.inr trivial, Or.inr trivial, Or.inr trivial, Or.inr trivial, Or.inr rfl, Or.inr trivial, Or.inr rfl, Or.inr trivial, trivial⟩, rfl, rfl, rfl, Nat.le_of_ble_eq_true rfl⟩ rfl zC7 rfl rfl dX7_clause_66 (fun r_66 w_66 hp => ?_) (fun E_ w_ hx => by obtain ⟨rfl, hb, rfl⟩ := hx; exact zx_out F E hno (by omega) (by omega) (k3 f g u m0 c))
              exact hp.elim
            · cases c_57
  have hi7 := (kwI_some.mp hk).1
  by_cases hi4 : 4 < i
  · obtain ⟨k1, k2, k3⟩ := fail 1 b (by unfold clS; rw [hk]; exact if_pos hi4) (by decide)
    have hw : ∀ {j}, j < 5 → isWb tb z b j = false := fun q => by rw [kwI_b hk (by omega), decide_eq_false (by omega)]
    refine z_aload_n F dX7_clause_0 rfl ?_
    refine z_ldcS F (F.con.2.2.2.2.2.2.2.2.2.1 (ksI 0) (ksI_lt (by decide))) dX7_clause_1 ?_
    refine z_callVD F (c_isB _ t fp T n d f g z b u m0 c 0 tb hz hT hb (by omega)) 1 rfl (lw_V q626 q628 qs7 q125 q629) (by decide +kernel) ⟨Nat.le_of_ble_eq_true rfl, Nat.le_of_ble_eq_true rfl⟩ ⟨by omega, by omega⟩ [0, 1, 2, 3, 4, 5, 6, 7, 8, 9, 10, 11, 12, 13, 14, 15, 16, 17, 18, 19, 20, 21, 22, 23, 24, 25] 26 ⟨rfl, rfl, rfl, ⟨Or.inl rfl, Or.inr rfl, Or.inr rfl, Or.inl rfl, Or.inl rfl, Or.inl rfl, Or.inl rfl, Or.inl rfl, Or.inl rfl, Or.inl rfl, Or.inl rfl, Or.inl rfl, Or.inl rfl, Or.inl rfl, Or.inl rfl, Or.inl rfl, Or.inl rfl, Or.inl rfl, Or.inl rfl, Or.inl rfl, Or.inl rfl, Or.inl rfl, Or.inr rfl, Or.inr rfl, Or.inr rfl, Or.inr rfl, trivial⟩⟩ (fun h => nomatch h) (Nat.le_of_ble_eq_true rfl) ⟨⟨Or.inr trivial, Or.inl rfl, Or.inl rfl, Or.inr trivial, Or.inr trivial, Or.inr trivial, Or.inr trivial, Or.inr trivial, Or.inr trivial, Or.inr trivial, Or.inr trivial, Or.inr trivial, Or.inr trivial, Or.inr trivial, Or.inr trivial, Or.inr trivial, Or.inr trivial, Or.inr trivial, Or.inr trivial, Or.inr trivial, Or.inr trivial, Or.inr trivial, Or.inl rfl, Or.inl rfl, Or.inl rfl, Or.inl rfl, trivial⟩, rfl, rfl, rfl, Nat.le_of_ble_eq_true rfl⟩ rfl zC7 rfl rfl dX7_clause_3 (fun r_3 w_3 hp => ?_) (fun _ _ h => h.elim)
    obtain ⟨rfl, rfl⟩ := hp
    rw [hw (show 0 < 5 by omega)]
    refine z_weq (w' := [zH, zO _ [zr _ _, zr _ _, zr _ _, zr _ _, zr _ _, zi _, zi _, zr _ _, zr _ _], zAi 3 400 _, zH, zH, zH, zH, zH, zH, zH, zH, zH, zH, zH, zH, zH, zH, zH, zH, zH, zH, zH, zO _ [zi _, zr _ _, zi _, zi _, zi _, zi _, zi _, zi _, zr _ _, zi _, zr _ _], zAi 0 12 _, zO _ [zi _, zi _, zr _ _], zAi 0 24 _]) rfl ?_
    refine z_seq (S' := zi _ :: _) rfl ?_
    refine z_istore_n F dX7_clause_6 (Nat.le_of_ble_eq_true rfl) ?_
    refine z_leq (L' := [_, _, _, _, _, _, _, _]) rfl ?_
    refine z_aload_n F dX7_clause_7 rfl ?_
    refine z_ldcS F (F.con.2.2.2.2.2.2.2.2.2.1 (ksI 1) (ksI_lt (by decide))) dX7_clause_8 ?_
    refine z_callVD F (c_isB _ t fp T n d f g z b u m0 c 1 tb hz hT hb (by omega)) 1 rfl (lw_V q626 q628 qs7 q125 q629) (by decide +kernel) ⟨Nat.le_of_ble_eq_true rfl, Nat.le_of_ble_eq_true rfl⟩ ⟨by omega, by omega⟩ [0, 1, 2, 3, 4, 5, 6, 7, 8, 9, 10, 11, 12, 13, 14, 15, 16, 17, 18, 19, 20, 21, 22, 23, 24, 25] 26 ⟨rfl, rfl, rfl, ⟨Or.inl rfl, Or.inr rfl, Or.inr rfl, Or.inl rfl, Or.inl rfl, Or.inl rfl, Or.inl rfl, Or.inl rfl, Or.inl rfl, Or.inl rfl, Or.inl rfl, Or.inl rfl, Or.inl rfl, Or.inl rfl, Or.inl rfl, Or.inl rfl, Or.inl rfl, Or.inl rfl, Or.inl rfl, Or.inl rfl, Or.inl rfl, Or.inl rfl, Or.inr rfl, Or.inr rfl, Or.inr rfl, Or.inr rfl, trivial⟩⟩ (fun h => nomatch h) (Nat.le_of_ble_eq_true rfl) ⟨⟨Or.inr trivial, Or.inl rfl, Or.inl rfl, Or.inr trivial, Or.inr trivial, Or.inr trivial, Or.inr trivial, Or.inr trivial, Or.inr trivial, Or.inr trivial, Or.inr trivial, Or.inr trivial, Or.inr trivial, Or.inr trivial, Or.inr trivial, Or.inr trivial, Or.inr trivial, Or.inr trivial, Or.inr trivial, Or.inr trivial, Or.inr trivial, Or.inr trivial, Or.inl rfl, Or.inl rfl, Or.inl rfl, Or.inl rfl, trivial⟩, rfl, rfl, rfl, Nat.le_of_ble_eq_true rfl⟩ rfl zC7 rfl rfl dX7_clause_10 (fun r_10 w_10 hp => ?_) (fun _ _ h => h.elim)
    obtain ⟨rfl, rfl⟩ := hp
    rw [hw (show 1 < 5 by omega)]
    refine z_weq (w' := [zH, zO _ [zr _ _, zr _ _, zr _ _, zr _ _, zr _ _, zi _, zi _, zr _ _, zr _ _], zAi 3 400 _, zH, zH, zH, zH, zH, zH, zH, zH, zH, zH, zH, zH, zH, zH, zH, zH, zH, zH, zH, zO _ [zi _, zr _ _, zi _, zi _, zi _, zi _, zi _, zi _, zr _ _, zi _, zr _ _], zAi 0 12 _, zO _ [zi _, zi _, zr _ _], zAi 0 24 _]) rfl ?_
    refine z_seq (S' := zi _ :: _) rfl ?_
    refine z_istore_n F dX7_clause_13 (Nat.le_of_ble_eq_true rfl) ?_
    refine z_leq (L' := [_, _, _, _, _, _, _, _]) rfl ?_
    refine z_aload_n F dX7_clause_14 rfl ?_
    refine z_ldcS F (F.con.2.2.2.2.2.2.2.2.2.1 (ksI 2) (ksI_lt (by decide))) dX7_clause_15 ?_
    refine z_callVD F (c_isB _ t fp T n d f g z b u m0 c 2 tb hz hT hb (by omega)) 1 rfl (lw_V q626 q628 qs7 q125 q629) (by decide +kernel) ⟨Nat.le_of_ble_eq_true rfl, Nat.le_of_ble_eq_true rfl⟩ ⟨by omega, by omega⟩ [0, 1, 2, 3, 4, 5, 6, 7, 8, 9, 10, 11, 12, 13, 14, 15, 16, 17, 18, 19, 20, 21, 22, 23, 24, 25] 26 ⟨rfl, rfl, rfl, ⟨Or.inl rfl, Or.inr rfl, Or.inr rfl, Or.inl rfl, Or.inl rfl, Or.inl rfl, Or.inl rfl, Or.inl rfl, Or.inl rfl, Or.inl rfl, Or.inl rfl, Or.inl rfl, Or.inl rfl, Or.inl rfl, Or.inl rfl, Or.inl rfl, Or.inl rfl, Or.inl rfl, Or.inl rfl, Or.inl rfl, Or.inl rfl, Or.inl rfl, Or.inr rfl, Or.inr rfl, Or.inr rfl, Or.inr rfl, trivial⟩⟩ (fun h => nomatch h) (Nat.le_of_ble_eq_true rfl) ⟨⟨Or.inr trivial, Or.inl rfl, Or.inl rfl, Or.inr trivial, Or.inr trivial, Or.inr trivial, Or.inr trivial, Or.inr trivial, Or.inr trivial, Or.inr trivial, Or.inr trivial, Or.inr trivial, Or.inr trivial, Or.inr trivial, Or.inr trivial, Or.inr trivial, Or.inr trivial, Or.inr trivial, Or.inr trivial, Or.inr trivial, Or.inr trivial, Or.inr trivial, Or.inl rfl, Or.inl rfl, Or.inl rfl, Or.inl rfl, trivial⟩, rfl, rfl, rfl, Nat.le_of_ble_eq_true rfl⟩ rfl zC7 rfl rfl dX7_clause_17 (fun r_17 w_17 hp => ?_) (fun _ _ h => h.elim)
    obtain ⟨rfl, rfl⟩ := hp
    rw [hw (show 2 < 5 by omega)]
    refine z_weq (w' := [zH, zO _ [zr _ _, zr _ _, zr _ _, zr _ _, zr _ _, zi _, zi _, zr _ _, zr _ _], zAi 3 400 _, zH, zH, zH, zH, zH, zH, zH, zH, zH, zH, zH, zH, zH, zH, zH, zH, zH, zH, zH, zO _ [zi _, zr _ _, zi _, zi _, zi _, zi _, zi _, zi _, zr _ _, zi _, zr _ _], zAi 0 12 _, zO _ [zi _, zi _, zr _ _], zAi 0 24 _]) rfl ?_
    refine z_seq (S' := zi _ :: _) rfl ?_
    refine z_istore_n F dX7_clause_20 (Nat.le_of_ble_eq_true rfl) ?_
    refine z_leq (L' := [_, _, _, _, _, _, _, _]) rfl ?_
    refine z_aload_n F dX7_clause_21 rfl ?_
    refine z_ldcS F (F.con.2.2.2.2.2.2.2.2.2.1 (ksI 3) (ksI_lt (by decide))) dX7_clause_22 ?_
    refine z_callVD F (c_isB _ t fp T n d f g z b u m0 c 3 tb hz hT hb (by omega)) 1 rfl (lw_V q626 q628 qs7 q125 q629) (by decide +kernel) ⟨Nat.le_of_ble_eq_true rfl, Nat.le_of_ble_eq_true rfl⟩ ⟨by omega, by omega⟩ [0, 1, 2, 3, 4, 5, 6, 7, 8, 9, 10, 11, 12, 13, 14, 15, 16, 17, 18, 19, 20, 21, 22, 23, 24, 25] 26 ⟨rfl, rfl, rfl, ⟨Or.inl rfl, Or.inr rfl, Or.inr rfl, Or.inl rfl, Or.inl rfl, Or.inl rfl, Or.inl rfl, Or.inl rfl, Or.inl rfl, Or.inl rfl, Or.inl rfl, Or.inl rfl, Or.inl rfl, Or.inl rfl, Or.inl rfl, Or.inl rfl, Or.inl rfl, Or.inl rfl, Or.inl rfl, Or.inl rfl, Or.inl rfl, Or.inl rfl, Or.inr rfl, Or.inr rfl, Or.inr rfl, Or.inr rfl, trivial⟩⟩ (fun h => nomatch h) (Nat.le_of_ble_eq_true rfl) ⟨⟨Or.inr trivial, Or.inl rfl, Or.inl rfl, Or.inr trivial, Or.inr trivial, Or.inr trivial, Or.inr trivial, Or.inr trivial, Or.inr trivial, Or.inr trivial, Or.inr trivial, Or.inr trivial, Or.inr trivial, Or.inr trivial, Or.inr trivial, Or.inr trivial, Or.inr trivial, Or.inr trivial, Or.inr trivial, Or.inr trivial, Or.inr trivial, Or.inr trivial, Or.inl rfl, Or.inl rfl, Or.inl rfl, Or.inl rfl, trivial⟩, rfl, rfl, rfl, Nat.le_of_ble_eq_true rfl⟩ rfl zC7 rfl rfl dX7_clause_24 (fun r_24 w_24 hp => ?_) (fun _ _ h => h.elim)
    obtain ⟨rfl, rfl⟩ := hp
    rw [hw (show 3 < 5 by omega)]
    refine z_weq (w' := [zH, zO _ [zr _ _, zr _ _, zr _ _, zr _ _, zr _ _, zi _, zi _, zr _ _, zr _ _], zAi 3 400 _, zH, zH, zH, zH, zH, zH, zH, zH, zH, zH, zH, zH, zH, zH, zH, zH, zH, zH, zH, zO _ [zi _, zr _ _, zi _, zi _, zi _, zi _, zi _, zi _, zr _ _, zi _, zr _ _], zAi 0 12 _, zO _ [zi _, zi _, zr _ _], zAi 0 24 _]) rfl ?_
    refine z_seq (S' := zi _ :: _) rfl ?_
    refine z_istore F dX7_clause_27 (Nat.le_of_ble_eq_true rfl) ?_
    refine z_leq (L' := [_, _, _, _, _, _, _, _]) rfl ?_
    refine z_aload_n F dX7_clause_29 rfl ?_
    refine z_ldcS F (F.con.2.2.2.2.2.2.2.2.2.1 (ksI 4) (ksI_lt (by decide))) dX7_clause_30 ?_
    refine z_callVD F (c_isB _ t fp T n d f g z b u m0 c 4 tb hz hT hb (by omega)) 1 rfl (lw_V q626 q628 qs7 q125 q629) (by decide +kernel) ⟨Nat.le_of_ble_eq_true rfl, Nat.le_of_ble_eq_true rfl⟩ ⟨by omega, by omega⟩ [0, 1, 2, 3, 4, 5, 6, 7, 8, 9, 10, 11, 12, 13, 14, 15, 16, 17, 18, 19, 20, 21, 22, 23, 24, 25] 26 ⟨rfl, rfl, rfl, ⟨Or.inl rfl, Or.inr rfl, Or.inr rfl, Or.inl rfl, Or.inl rfl, Or.inl rfl, Or.inl rfl, Or.inl rfl, Or.inl rfl, Or.inl rfl, Or.inl rfl, Or.inl rfl, Or.inl rfl, Or.inl rfl, Or.inl rfl, Or.inl rfl, Or.inl rfl, Or.inl rfl, Or.inl rfl, Or.inl rfl, Or.inl rfl, Or.inl rfl, Or.inr rfl, Or.inr rfl, Or.inr rfl, Or.inr rfl, trivial⟩⟩ (fun h => nomatch h) (Nat.le_of_ble_eq_true rfl) ⟨⟨Or.inr trivial, Or.inl rfl, Or.inl rfl, Or.inr trivial, Or.inr trivial, Or.inr trivial, Or.inr trivial, Or.inr trivial, Or.inr trivial, Or.inr trivial, Or.inr trivial, Or.inr trivial, Or.inr trivial, Or.inr trivial, Or.inr trivial, Or.inr trivial, Or.inr trivial, Or.inr trivial, Or.inr trivial, Or.inr trivial, Or.inr trivial, Or.inr trivial, Or.inl rfl, Or.inl rfl, Or.inl rfl, Or.inl rfl, trivial⟩, rfl, rfl, rfl, Nat.le_of_ble_eq_true rfl⟩ rfl zC7 rfl rfl dX7_clause_32 (fun r_32 w_32 hp => ?_) (fun _ _ h => h.elim)
    obtain ⟨rfl, rfl⟩ := hp
    rw [hw (show 4 < 5 by omega)]
    refine z_weq (w' := [zH, zO _ [zr _ _, zr _ _, zr _ _, zr _ _, zr _ _, zi _, zi _, zr _ _, zr _ _], zAi 3 400 _, zH, zH, zH, zH, zH, zH, zH, zH, zH, zH, zH, zH, zH, zH, zH, zH, zH, zH, zH, zO _ [zi _, zr _ _, zi _, zi _, zi _, zi _, zi _, zi _, zr _ _, zi _, zr _ _], zAi 0 12 _, zO _ [zi _, zi _, zr _ _], zAi 0 24 _]) rfl ?_
    refine z_seq (S' := zi _ :: _) rfl ?_
    refine z_istore F dX7_clause_35 (Nat.le_of_ble_eq_true rfl) ?_
    refine z_leq (L' := [_, _, _, _, _, _, _, _]) rfl ?_
    refine z_aload_n F dX7_clause_37 rfl ?_
    refine z_iload_n F dX7_clause_38 rfl ?_
    refine z_if_neB F (tgt := 60) dX7_clause_39 (by decide) (fun c_39 => ?_) (fun c_39 => ?_)
    · cases c_39
    · refine z_iload_n F dX7_clause_42 rfl ?_
      refine z_if_neB F (tgt := 60) dX7_clause_43 (by decide) (fun c_43 => ?_) (fun c_43 => ?_)
      · cases c_43
      · refine z_iload_n F dX7_clause_46 rfl ?_
        refine z_if_neB F (tgt := 60) dX7_clause_47 (by decide) (fun c_47 => ?_) (fun c_47 => ?_)
        · cases c_47
        · refine z_iload F dX7_clause_50 rfl ?_
          refine z_if_neB F (tgt := 60) dX7_clause_52 (by decide) (fun c_52 => ?_) (fun c_52 => ?_)
          · cases c_52
          · refine z_iload F dX7_clause_55 rfl ?_
            refine z_if_eqB F (tgt := 64) dX7_clause_57 (by decide) (fun c_57 => ?_) (fun c_57 => ?_)
            · refine z_iconstB F false dX7_clause_64 rfl ?_
              refine z_iconst F (nI 1) dX7_clause_65 rfl ?_
              refine z_callVH F (c_want_f 1) 2 rfl (lw_V q678 q680 qs8 q125 q681) (by decide +kernel) ⟨Nat.le_of_ble_eq_true rfl, Nat.le_of_ble_eq_true rfl⟩ ⟨by omega, by omega⟩ [0, 22] 26 ⟨rfl, rfl, rfl, ⟨Or.inl rfl, Or.inl rfl, trivial⟩⟩ (fun h => nomatch h) (Nat.le_of_ble_eq_true rfl) ⟨⟨Or.inr trivial, Or.inr rfl, Or.inr trivial, Or.inr trivial, Or.inr trivial, Or.inr trivial, Or.inr trivial, Or.inr trivial, Or.inr trivial, Or.inr trivial, Or.inr trivial, Or.inr trivial, Or.inr trivial, Or.inr trivial, Or.inr trivial, Or.inr trivial, Or.inr trivial, Or.inr trivial, Or.inr trivial, Or.inr trivial, Or.inr trivial, Or.inr trivial, Or.inr rfl, Or.inr trivial, Or.inr rfl, Or.inr trivial, trivial⟩, rfl, rfl, rfl, Nat.le_of_ble_eq_true rfl⟩ rfl zC7 rfl rfl dX7_clause_66 (fun r_66 w_66 hp => ?_) (fun E_ w_ hx => by obtain ⟨rfl, hb, rfl⟩ := hx; exact zx_out F E hno (by omega) (by omega) (k3 f g u m0 c))
              exact hp.elim
            · cases c_57
  have hw : ∀ {j}, j < 7 → isWb tb z b j = decide (j = i) := fun q => kwI_b hk q
  -- the lines
  have lines : c ≠ 20 → ∀ (b1 m u1 : Nat) (l : Nat → Nat) (g1 : Nat → Int32), clK tb z n i b = (0, b1, l, m) → kd tb z b1 = 3 → b1 ≤ z → TS tb z u1 b1 → lok n l m → 2 ≤ m → (∀ k, k < m → g1 k = nI (l k)) → Z X [some (zr 22 0), some (zi (bI (decide (0 = i)))), some (zi (bI (decide (1 = i)))), some (zi (bI (decide (2 = i)))), some (zi (bI (decide (3 = i)))), some (zi (bI (decide (4 = i)))), none, none] [] (rTB t fp T n d f g1 tb z b1 u1 m (c + 1)) 0 0 153 := by
    intro hc20 b1 m u1 l g1 hcK hkd3 hb1 hu1 hl hm2 hg
    have hm12 := hl.2.2
    have l24 : ∀ k, k < m → l k < 24 := fun k hk => by have := hl.1 k hk; omega
    have failr : ∀ e, lnR d i l m f = .inr e → e ≠ 0 → 1 ≤ mc ∧ 7 ≤ ms ∧ ∀ f' g' u' m' c', xpost eWrg (rTB t fp T n d f' g' tb z b1 u' m' c' ++ [eWr e]) := fun e h he => fail e b1 (clS_r hk hi4 hc20 hcK hkd3 h) he
    have e368 : ∀ f1, lnR d i l m f = .inl f1 → Z X [some (zr 22 0), some (zi (bI (decide (0 = i)))), some (zi (bI (decide (1 = i)))), some (zi (bI (decide (2 = i)))), some (zi (bI (decide (3 = i)))), some (zi (bI (decide (4 = i)))), none, none] [] (rTB t fp T n d f1 g1 tb z b1 u1 m (c + 1)) 0 0 368 := by
      intro f1 h1
      have hg2 := good _ _ (clS_l hk hi4 hc20 hcK hkd3 h1)
      refine z_aload_n F dX7_clause_368 rfl ?_
      refine z_callV F (c_nextB t fp T n d f1 g1 z (en tb z b1) (kd tb z b1) b1 (en tb z b1) u1 m (c + 1) tb hz hT htb ((en_ge tb z b1).2 hb1)) 0 rfl (lw_V q601 q603 qs2 q125 q604) (by decide +kernel) ⟨Nat.le_of_ble_eq_true rfl, Nat.le_of_ble_eq_true rfl⟩ ⟨by omega, by omega⟩ [0, 1, 2, 3, 4, 5, 6, 7, 8, 9, 10, 11, 12, 13, 14, 15, 16, 17, 18, 19, 20, 21, 22, 23, 24, 25] 26 ⟨rfl, rfl, rfl, ⟨Or.inl rfl, Or.inr rfl, Or.inr rfl, Or.inl rfl, Or.inl rfl, Or.inl rfl, Or.inl rfl, Or.inl rfl, Or.inl rfl, Or.inl rfl, Or.inl rfl, Or.inl rfl, Or.inl rfl, Or.inl rfl, Or.inl rfl, Or.inl rfl, Or.inl rfl, Or.inl rfl, Or.inl rfl, Or.inl rfl, Or.inl rfl, Or.inl rfl, Or.inr rfl, Or.inr rfl, Or.inr rfl, Or.inr rfl, trivial⟩⟩ (fun h => nomatch h) (Nat.le_of_ble_eq_true rfl) ⟨⟨Or.inr trivial, Or.inl rfl, Or.inl rfl, Or.inr trivial, Or.inr trivial, Or.inr trivial, Or.inr trivial, Or.inr trivial, Or.inr trivial, Or.inr trivial, Or.inr trivial, Or.inr trivial, Or.inr trivial, Or.inr trivial, Or.inr trivial, Or.inr trivial, Or.inr trivial, Or.inr trivial, Or.inr trivial, Or.inr trivial, Or.inr trivial, Or.inr trivial, Or.inl rfl, Or.inl rfl, Or.inl rfl, Or.inl rfl, trivial⟩, rfl, rfl, rfl, Nat.le_of_ble_eq_true rfl⟩ rfl zC7 rfl rfl dX7_clause_369 (fun r_369 w_369 hp => ?_) (fun _ _ h => h.elim)
      obtain ⟨rfl, rfl⟩ := hp
      refine z_weq (w' := [zH, zO _ [zr _ _, zr _ _, zr _ _, zr _ _, zr _ _, zi _, zi _, zr _ _, zr _ _], zAi 3 400 _, zH, zH, zH, zH, zH, zH, zH, zH, zH, zH, zH, zH, zH, zH, zH, zH, zH, zH, zH, zO _ [zi _, zr _ _, zi _, zi _, zi _, zi _, zi _, zi _, zr _ _, zi _, zr _ _], zAi 0 12 _, zO _ [zi _, zi _, zr _ _], zAi 0 24 _]) rfl ?_
      refine z_seq (S' := []) rfl ?_
      exact z_vret F E rfl dX7_clause_372 (by omega) (by omega) (hg2 (nuV tb z (nb tb z b1) u1) m g1 (nuV_ok hu1.1))
    have p312 : i ≠ 2 → ∀ f1, Z X [some (zr 22 0), some (zi (bI (decide (0 = i)))), some (zi (bI (decide (1 = i)))), some (zi (bI (decide (2 = i)))), some (zi (bI (decide (3 = i)))), some (zi (bI (decide (4 = i)))), none, none] [] (rTB t fp T n d f1 g1 tb z b1 u1 m (c + 1)) 0 0 368 → Z X [some (zr 22 0), some (zi (bI (decide (0 = i)))), some (zi (bI (decide (1 = i)))), some (zi (bI (decide (2 = i)))), some (zi (bI (decide (3 = i)))), some (zi (bI (decide (4 = i)))), none, none] [] (rTB t fp T n d f1 g1 tb z b1 u1 m (c + 1)) 0 0 312 := by
      intro q f1 kk
      refine z_iconst F (nI 1) dX7_clause_312 rfl ?_
      refine z_istore F dX7_clause_313 (Nat.le_of_ble_eq_true rfl) ?_
      refine z_leq (L' := [_, _, _, _, _, _, _, _]) rfl ?_
      refine z_iload F dX7_clause_315 rfl ?_
      refine z_aload_n F dX7_clause_317 rfl ?_
      refine z_get F zC7 (f := 7) rfl (Nat.le_of_ble_eq_true rfl) q570 rfl dX7_clause_318 ?_
      refine z_icmp_geN F (by omega) (by omega) (tgt := 368) dX7_clause_321 (by decide) (fun c_321 => ?_) (fun c_321 => ?_)
      · exact absurd c_321 (by omega)
      · refine z_iload_n F dX7_clause_324 rfl ?_
        refine z_if_eqB F (tgt := 368) dX7_clause_325 (by decide) (fun c_325 => ?_) (fun c_325 => ?_)
        · refine z_loc _ ?_ kk
          exact ⟨rfl, rfl, rfl, rfl, rfl, rfl, trivial⟩
        · exact absurd (of_decide_eq_true c_325) (by omega)
    have p272 : i ≠ 3 → ∀ f1, Z X [some (zr 22 0), some (zi (bI (decide (0 = i)))), some (zi (bI (decide (1 = i)))), some (zi (bI (decide (2 = i)))), some (zi (bI (decide (3 = i)))), some (zi (bI (decide (4 = i)))), none, none] [] (rTB t fp T n d f1 g1 tb z b1 u1 m (c + 1)) 0 0 312 → Z X [some (zr 22 0), some (zi (bI (decide (0 = i)))), some (zi (bI (decide (1 = i)))), some (zi (bI (decide (2 = i)))), some (zi (bI (decide (3 = i)))), some (zi (bI (decide (4 = i)))), none, none] [] (rTB t fp T n d f1 g1 tb z b1 u1 m (c + 1)) 0 0 272 := by
      intro q f1 kk
      refine z_iconst F (nI 1) dX7_clause_272 rfl ?_
      refine z_istore F dX7_clause_273 (Nat.le_of_ble_eq_true rfl) ?_
      refine z_leq (L' := [_, _, _, _, _, _, _, _]) rfl ?_
      refine z_iload F dX7_clause_275 rfl ?_
      refine z_aload_n F dX7_clause_277 rfl ?_
      refine z_get F zC7 (f := 7) rfl (Nat.le_of_ble_eq_true rfl) q570 rfl dX7_clause_278 ?_
      refine z_icmp_geN F (by omega) (by omega) (tgt := 312) dX7_clause_281 (by decide) (fun c_281 => ?_) (fun c_281 => ?_)
      · exact absurd c_281 (by omega)
      · refine z_iload F dX7_clause_284 rfl ?_
        refine z_if_eqB F (tgt := 312) dX7_clause_286 (by decide) (fun c_286 => ?_) (fun c_286 => ?_)
        · refine z_loc _ ?_ kk
          exact ⟨rfl, rfl, rfl, rfl, rfl, rfl, trivial⟩
        · exact absurd (of_decide_eq_true c_286) (by omega)
    have p247 : i ≠ 1 → ∀ f1, Z X [some (zr 22 0), some (zi (bI (decide (0 = i)))), some (zi (bI (decide (1 = i)))), some (zi (bI (decide (2 = i)))), some (zi (bI (decide (3 = i)))), some (zi (bI (decide (4 = i)))), none, none] [] (rTB t fp T n d f1 g1 tb z b1 u1 m (c + 1)) 0 0 272 → Z X [some (zr 22 0), some (zi (bI (decide (0 = i)))), some (zi (bI (decide (1 = i)))), some (zi (bI (decide (2 = i)))), some (zi (bI (decide (3 = i)))), some (zi (bI (decide (4 = i)))), none, none] [] (rTB t fp T n d f1 g1 tb z b1 u1 m (c + 1)) 0 0 247 := by
      intro q f1 kk
      refine z_iload_n F dX7_clause_247 rfl ?_
      refine z_if_eqB F (tgt := 272) dX7_clause_248 (by decide) (fun c_248 => ?_) (fun c_248 => ?_)
      · exact kk
      · exact absurd (of_decide_eq_true c_248) (by omega)
    have p201 : i ≠ 0 → i ≠ 1 → ∀ f1, Z X [some (zr 22 0), some (zi (bI (decide (0 = i)))), some (zi (bI (decide (1 = i)))), some (zi (bI (decide (2 = i)))), some (zi (bI (decide (3 = i)))), some (zi (bI (decide (4 = i)))), none, none] [] (rTB t fp T n d f1 g1 tb z b1 u1 m (c + 1)) 0 0 247 → Z X [some (zr 22 0), some (zi (bI (decide (0 = i)))), some (zi (bI (decide (1 = i)))), some (zi (bI (decide (2 = i)))), some (zi (bI (decide (3 = i)))), some (zi (bI (decide (4 = i)))), none, none] [] (rTB t fp T n d f1 g1 tb z b1 u1 m (c + 1)) 0 0 201 := by
      intro q0 q1 f1 kk
      refine z_iconst F (nI 1) dX7_clause_201 rfl ?_
      refine z_istore F dX7_clause_202 (Nat.le_of_ble_eq_true rfl) ?_
      refine z_leq (L' := [_, _, _, _, _, _, _, _]) rfl ?_
      refine z_iload F dX7_clause_204 rfl ?_
      refine z_aload_n F dX7_clause_206 rfl ?_
      refine z_get F zC7 (f := 7) rfl (Nat.le_of_ble_eq_true rfl) q570 rfl dX7_clause_207 ?_
      refine z_icmp_geN F (by omega) (by omega) (tgt := 247) dX7_clause_210 (by decide) (fun c_210 => ?_) (fun c_210 => ?_)
      · exact absurd c_210 (by omega)
      · refine z_iload_n F dX7_clause_213 rfl ?_
        refine z_if_neB F (tgt := 221) dX7_clause_214 (by decide) (fun c_214 => ?_) (fun c_214 => ?_)
        · exact absurd (of_decide_eq_true c_214) (by omega)
        · refine z_iload_n F dX7_clause_217 rfl ?_
          refine z_if_eqB F (tgt := 247) dX7_clause_218 (by decide) (fun c_218 => ?_) (fun c_218 => ?_)
          · refine z_loc _ ?_ kk
            exact ⟨rfl, rfl, rfl, rfl, rfl, rfl, trivial⟩
          · exact absurd (of_decide_eq_true c_218) (by omega)
    have p153 : i ≠ 4 → Z X [some (zr 22 0), some (zi (bI (decide (0 = i)))), some (zi (bI (decide (1 = i)))), some (zi (bI (decide (2 = i)))), some (zi (bI (decide (3 = i)))), some (zi (bI (decide (4 = i)))), none, none] [] (rTB t fp T n d f g1 tb z b1 u1 m (c + 1)) 0 0 201 → Z X [some (zr 22 0), some (zi (bI (decide (0 = i)))), some (zi (bI (decide (1 = i)))), some (zi (bI (decide (2 = i)))), some (zi (bI (decide (3 = i)))), some (zi (bI (decide (4 = i)))), none, none] [] (rTB t fp T n d f g1 tb z b1 u1 m (c + 1)) 0 0 153 := by
      intro q kk
      refine z_iload F dX7_clause_153 rfl ?_
      refine z_if_eqB F (tgt := 201) dX7_clause_155 (by decide) (fun c_155 => ?_) (fun c_155 => ?_)
      · exact kk
      · exact absurd (of_decide_eq_true c_155) (by omega)
    -- rows and rings
    have tail : ∀ fk, drow d f l (m - 1) = .inl fk → Z X [some (zr 22 0), some (zi (bI (decide (0 = i)))), some (zi (bI (decide (1 = i)))), some (zi (bI (decide (2 = i)))), some (zi (bI (decide (3 = i)))), some (zi (bI (decide (4 = i)))), none, none] [] (rTB t fp T n d fk g1 tb z b1 u1 m (c + 1)) 0 0 247 ∨ ¬ (i = 0 ∨ i = 1) := by
      intro fk hdr
      by_cases i0 : i = 0
      · exact Or.inl (p247 (by omega) fk (p272 (by omega) fk (p312 (by omega) fk (e368 fk (by unfold lnR; rw [if_pos i0]; exact hdr)))))
      by_cases i1 : i = 1
      · refine Or.inl ?_
        have hln : ∀ s, dj d (.inl fk) (l (m - 1)) (l 0) = s → lnR d i l m f = s := fun s h => by unfold lnR; rw [if_neg i0, if_pos i1, hdr]; exact h
        rcases dj3 d fk (l (m - 1)) (l 0) with ⟨j1, j2, j3⟩ | ⟨j1, j3⟩ | ⟨j1, j2, j3⟩
        · skip
          refine z_iload_n F dX7_clause_247 rfl ?_
          refine z_if_eqB F (tgt := 272) dX7_clause_248 (by decide) (fun c_248 => ?_) (fun c_248 => ?_)
          · exact absurd (of_decide_eq_false c_248) (by omega)
          · refine z_aload_n F dX7_clause_251 rfl ?_
            refine z_aload_n F dX7_clause_252 rfl ?_
            refine z_get F zC7 (f := 1) rfl (Nat.le_of_ble_eq_true rfl) q563 rfl dX7_clause_253 ?_
            refine z_aload_n F dX7_clause_256 rfl ?_
            refine z_get F zC7 (f := 7) rfl (Nat.le_of_ble_eq_true rfl) q570 rfl dX7_clause_257 ?_
            refine z_iconst F (nI 1) dX7_clause_260 rfl ?_
            refine z_isubN F (by omega) dX7_clause_261 ?_
            refine z_ialdN F rfl (Nat.le_of_ble_eq_true rfl) (by omega) rfl dX7_clause_262 ?_
            refine z_ieq (hg (m - 1) (by omega)) ?_
            refine z_aload_n F dX7_clause_263 rfl ?_
            refine z_get F zC7 (f := 1) rfl (Nat.le_of_ble_eq_true rfl) q563 rfl dX7_clause_264 ?_
            refine z_iconst F (nI 0) dX7_clause_267 rfl ?_
            refine z_ialdN F rfl (Nat.le_of_ble_eq_true rfl) (by omega) rfl dX7_clause_268 ?_
            refine z_ieq (hg 0 (by omega)) ?_
            refine z_callV F (c_join_t t fp T n d fk g1 z (en tb z b1) (kd tb z b1) b1 (en tb z b1) u1 m (c + 1) (l (m - 1)) (l 0) (l24 _ (by omega)) (l24 _ (by omega)) (by omega) j1 j2) 2 rfl (lw_V q732 q734 qs13 q125 q735) (by decide +kernel) ⟨Nat.le_of_ble_eq_true rfl, Nat.le_of_ble_eq_true rfl⟩ ⟨by omega, by omega⟩ [0, 1, 2, 3, 4, 5, 6, 7, 8, 9, 10, 11, 12, 13, 14, 15, 16, 17, 18, 19, 20, 21, 22, 23, 24, 25] 26 ⟨rfl, rfl, rfl, ⟨Or.inl rfl, Or.inr rfl, Or.inr rfl, Or.inl rfl, Or.inl rfl, Or.inl rfl, Or.inl rfl, Or.inl rfl, Or.inl rfl, Or.inl rfl, Or.inl rfl, Or.inl rfl, Or.inl rfl, Or.inl rfl, Or.inl rfl, Or.inl rfl, Or.inl rfl, Or.inl rfl, Or.inl rfl, Or.inl rfl, Or.inl rfl, Or.inl rfl, Or.inr rfl, Or.inr rfl, Or.inr rfl, Or.inr rfl, trivial⟩⟩ (fun h => nomatch h) (Nat.le_of_ble_eq_true rfl) ⟨⟨Or.inr trivial, Or.inl rfl, Or.inl rfl, Or.inr trivial, Or.inr trivial, Or.inr trivial, Or.inr trivial, Or.inr trivial, Or.inr trivial, Or.inr trivial, Or.inr trivial, Or.inr trivial, Or.inr trivial, Or.inr trivial, Or.inr trivial, Or.inr trivial, Or.inr trivial, Or.inr trivial, Or.inr trivial, Or.inr trivial, Or.inr trivial, Or.inr trivial, Or.inl rfl, Or.inl rfl, Or.inl rfl, Or.inl rfl, trivial⟩, rfl, rfl, rfl, Nat.le_of_ble_eq_true rfl⟩ rfl zC7 rfl rfl dX7_clause_269 (fun r_269 w_269 hp => ?_) (fun _ _ h => h.elim)
            obtain ⟨rfl, rfl⟩ := hp
            refine z_weq (w' := [zH, zO _ [zr _ _, zr _ _, zr _ _, zr _ _, zr _ _, zi _, zi _, zr _ _, zr _ _], zAi 3 400 _, zH, zH, zH, zH, zH, zH, zH, zH, zH, zH, zH, zH, zH, zH, zH, zH, zH, zH, zH, zO _ [zi _, zr _ _, zi _, zi _, zi _, zi _, zi _, zi _, zr _ _, zi _, zr _ _], zAi 0 12 _, zO _ [zi _, zi _, zr _ _], zAi 0 24 _]) rfl ?_
            refine z_seq (S' := []) rfl ?_
            exact p272 (by omega) _ (p312 (by omega) _ (e368 _ (hln _ j3)))
        · obtain ⟨k1, k2, k3⟩ := failr 5 (hln _ j3) (by decide)
          refine z_iload_n F dX7_clause_247 rfl ?_
          refine z_if_eqB F (tgt := 272) dX7_clause_248 (by decide) (fun c_248 => ?_) (fun c_248 => ?_)
          · exact absurd (of_decide_eq_false c_248) (by omega)
          · refine z_aload_n F dX7_clause_251 rfl ?_
            refine z_aload_n F dX7_clause_252 rfl ?_
            refine z_get F zC7 (f := 1) rfl (Nat.le_of_ble_eq_true rfl) q563 rfl dX7_clause_253 ?_
            refine z_aload_n F dX7_clause_256 rfl ?_
            refine z_get F zC7 (f := 7) rfl (Nat.le_of_ble_eq_true rfl) q570 rfl dX7_clause_257 ?_
            refine z_iconst F (nI 1) dX7_clause_260 rfl ?_
            refine z_isubN F (by omega) dX7_clause_261 ?_
            refine z_ialdN F rfl (Nat.le_of_ble_eq_true rfl) (by omega) rfl dX7_clause_262 ?_
            refine z_ieq (hg (m - 1) (by omega)) ?_
            refine z_aload_n F dX7_clause_263 rfl ?_
            refine z_get F zC7 (f := 1) rfl (Nat.le_of_ble_eq_true rfl) q563 rfl dX7_clause_264 ?_
            refine z_iconst F (nI 0) dX7_clause_267 rfl ?_
            refine z_ialdN F rfl (Nat.le_of_ble_eq_true rfl) (by omega) rfl dX7_clause_268 ?_
            refine z_ieq (hg 0 (by omega)) ?_
            refine z_callV F (c_join_5 t fp T n d fk g1 z (en tb z b1) (kd tb z b1) b1 (en tb z b1) u1 m (c + 1) (l (m - 1)) (l 0) (l24 _ (by omega)) (l24 _ (by omega)) (by omega) j1) 2 rfl (lw_V q732 q734 qs13 q125 q735) (by decide +kernel) ⟨Nat.le_of_ble_eq_true rfl, Nat.le_of_ble_eq_true rfl⟩ ⟨by omega, by omega⟩ [0, 1, 2, 3, 4, 5, 6, 7, 8, 9, 10, 11, 12, 13, 14, 15, 16, 17, 18, 19, 20, 21, 22, 23, 24, 25] 26 ⟨rfl, rfl, rfl, ⟨Or.inl rfl, Or.inr rfl, Or.inr rfl, Or.inl rfl, Or.inl rfl, Or.inl rfl, Or.inl rfl, Or.inl rfl, Or.inl rfl, Or.inl rfl, Or.inl rfl, Or.inl rfl, Or.inl rfl, Or.inl rfl, Or.inl rfl, Or.inl rfl, Or.inl rfl, Or.inl rfl, Or.inl rfl, Or.inl rfl, Or.inl rfl, Or.inl rfl, Or.inr rfl, Or.inr rfl, Or.inr rfl, Or.inr rfl, trivial⟩⟩ (fun h => nomatch h) (Nat.le_of_ble_eq_true rfl) ⟨⟨Or.inr trivial, Or.inl rfl, Or.inl rfl, Or.inr trivial, Or.inr trivial, Or.inr trivial, Or.inr trivial, Or.inr trivial, Or.inr trivial, Or.inr trivial, Or.inr trivial, Or.inr trivial, Or.inr trivial, Or.inr trivial, Or.inr trivial, Or.inr trivial, Or.inr trivial, Or.inr trivial, Or.inr trivial, Or.inr trivial, Or.inr trivial, Or.inr trivial, Or.inl rfl, Or.inl rfl, Or.inl rfl, Or.inl rfl, trivial⟩, rfl, rfl, rfl, Nat.le_of_ble_eq_true rfl⟩ rfl zC7 rfl rfl dX7_clause_269 (fun r_269 w_269 hp => ?_) (fun E_ w_ hx => by obtain ⟨rfl, hb, rfl⟩ := hx; exact zx_out F E hno (by omega) (by omega) (k3 fk g1 u1 m (c + 1)))
            exact hp.elim
        · obtain ⟨k1, k2, k3⟩ := failr 6 (hln _ j3) (by decide)
          refine z_iload_n F dX7_clause_247 rfl ?_
          refine z_if_eqB F (tgt := 272) dX7_clause_248 (by decide) (fun c_248 => ?_) (fun c_248 => ?_)
          · exact absurd (of_decide_eq_false c_248) (by omega)
          · refine z_aload_n F dX7_clause_251 rfl ?_
            refine z_aload_n F dX7_clause_252 rfl ?_
            refine z_get F zC7 (f := 1) rfl (Nat.le_of_ble_eq_true rfl) q563 rfl dX7_clause_253 ?_
            refine z_aload_n F dX7_clause_256 rfl ?_
            refine z_get F zC7 (f := 7) rfl (Nat.le_of_ble_eq_true rfl) q570 rfl dX7_clause_257 ?_
            refine z_iconst F (nI 1) dX7_clause_260 rfl ?_
            refine z_isubN F (by omega) dX7_clause_261 ?_
            refine z_ialdN F rfl (Nat.le_of_ble_eq_true rfl) (by omega) rfl dX7_clause_262 ?_
            refine z_ieq (hg (m - 1) (by omega)) ?_
            refine z_aload_n F dX7_clause_263 rfl ?_
            refine z_get F zC7 (f := 1) rfl (Nat.le_of_ble_eq_true rfl) q563 rfl dX7_clause_264 ?_
            refine z_iconst F (nI 0) dX7_clause_267 rfl ?_
            refine z_ialdN F rfl (Nat.le_of_ble_eq_true rfl) (by omega) rfl dX7_clause_268 ?_
            refine z_ieq (hg 0 (by omega)) ?_
            refine z_callV F (c_join_6 t fp T n d fk g1 z (en tb z b1) (kd tb z b1) b1 (en tb z b1) u1 m (c + 1) (l (m - 1)) (l 0) (l24 _ (by omega)) (l24 _ (by omega)) (by omega) j1 j2) 2 rfl (lw_V q732 q734 qs13 q125 q735) (by decide +kernel) ⟨Nat.le_of_ble_eq_true rfl, Nat.le_of_ble_eq_true rfl⟩ ⟨by omega, by omega⟩ [0, 1, 2, 3, 4, 5, 6, 7, 8, 9, 10, 11, 12, 13, 14, 15, 16, 17, 18, 19, 20, 21, 22, 23, 24, 25] 26 ⟨rfl, rfl, rfl, ⟨Or.inl rfl, Or.inr rfl, Or.inr rfl, Or.inl rfl, Or.inl rfl, Or.inl rfl, Or.inl rfl, Or.inl rfl, Or.inl rfl, Or.inl rfl, Or.inl rfl, Or.inl rfl, Or.inl rfl, Or.inl rfl, Or.inl rfl, Or.inl rfl, Or.inl rfl, Or.inl rfl, Or.inl rfl, Or.inl rfl, Or.inl rfl, Or.inl rfl, Or.inr rfl, Or.inr rfl, Or.inr rfl, Or.inr rfl, trivial⟩⟩ (fun h => nomatch h) (Nat.le_of_ble_eq_true rfl) ⟨⟨Or.inr trivial, Or.inl rfl, Or.inl rfl, Or.inr trivial, Or.inr trivial, Or.inr trivial, Or.inr trivial, Or.inr trivial, Or.inr trivial, Or.inr trivial, Or.inr trivial, Or.inr trivial, Or.inr trivial, Or.inr trivial, Or.inr trivial, Or.inr trivial, Or.inr trivial, Or.inr trivial, Or.inr trivial, Or.inr trivial, Or.inr trivial, Or.inr trivial, Or.inl rfl, Or.inl rfl, Or.inl rfl, Or.inl rfl, trivial⟩, rfl, rfl, rfl, Nat.le_of_ble_eq_true rfl⟩ rfl zC7 rfl rfl dX7_clause_269 (fun r_269 w_269 hp => ?_) (fun E_ w_ hx => by obtain ⟨rfl, hb, rfl⟩ := hx; exact zx_out F E hno (by omega) (by omega) (k3 fk g1 u1 m (c + 1)))
            exact hp.elim
      · exact Or.inr (fun w => by omega)
    have rows : (i = 0 ∨ i = 1) → ∀ (x k : Nat) (fk : Nat → Int32), m - (k + 1) < x → k + 1 ≤ m → drow d f l k = .inl fk → Z X [some (zr 22 0), some (zi (bI (decide (0 = i)))), some (zi (bI (decide (1 = i)))), some (zi (bI (decide (2 = i)))), some (zi (bI (decide (3 = i)))), some (zi (bI (decide (4 = i)))), some (zi (nI (k + 1))), none] [] (rTB t fp T n d fk g1 tb z b1 u1 m (c + 1)) 0 0 204 := by
      intro hi01 x
      induction x with
      | zero => intro k fk hx; omega
      | succ x ih =>
        intro k fk hx hk hdr
        have bad : ∀ e, k + 1 < m → dj d (.inl fk) (l k) (l (k + 1)) = .inr e → lnR d i l m f = .inr e := fun e q h => by
          have h2 : drow d f l (k + 1) = .inr e := by rw [drow, hdr]; exact h
          have h3 := drow_bad h2 (m - 1) (by omega)
          rcases hi01 with w | w
          · unfold lnR; rw [if_pos w]; exact h3
          · unfold lnR; rw [if_neg (by omega), if_pos w, h3]; rfl
        have J : k + 1 < m → Z X [some (zr 22 0), some (zi (bI (decide (0 = i)))), some (zi (bI (decide (1 = i)))), some (zi (bI (decide (2 = i)))), some (zi (bI (decide (3 = i)))), some (zi (bI (decide (4 = i)))), some (zi (nI (k + 1))), none] [] (rTB t fp T n d fk g1 tb z b1 u1 m (c + 1)) 0 0 221 := by
          intro hkm
          rcases dj3 d fk (l k) (l (k + 1)) with ⟨j1, j2, j3⟩ | ⟨j1, j3⟩ | ⟨j1, j2, j3⟩
          · skip
            refine z_aload_n F dX7_clause_221 rfl ?_
            refine z_aload_n F dX7_clause_222 rfl ?_
            refine z_get F zC7 (f := 1) rfl (Nat.le_of_ble_eq_true rfl) q563 rfl dX7_clause_223 ?_
            refine z_iload F dX7_clause_226 rfl ?_
            refine z_iconst F (nI 1) dX7_clause_228 rfl ?_
            refine z_isubN F (by omega) dX7_clause_229 ?_
            refine z_ieq (congrArg nI (show k + 1 - 1 = k by omega)) ?_
            refine z_ialdN F rfl (Nat.le_of_ble_eq_true rfl) (by omega) rfl dX7_clause_230 ?_
            refine z_ieq (hg k (by omega)) ?_
            refine z_aload_n F dX7_clause_231 rfl ?_
            refine z_get F zC7 (f := 1) rfl (Nat.le_of_ble_eq_true rfl) q563 rfl dX7_clause_232 ?_
            refine z_iload F dX7_clause_235 rfl ?_
            refine z_ialdN F rfl (Nat.le_of_ble_eq_true rfl) (by omega) rfl dX7_clause_237 ?_
            refine z_ieq (hg (k + 1) (by omega)) ?_
            refine z_callV F (c_join_t t fp T n d fk g1 z (en tb z b1) (kd tb z b1) b1 (en tb z b1) u1 m (c + 1) (l k) (l (k + 1)) (l24 _ (by omega)) (l24 _ (by omega)) (by omega) j1 j2) 2 rfl (lw_V q732 q734 qs13 q125 q735) (by decide +kernel) ⟨Nat.le_of_ble_eq_true rfl, Nat.le_of_ble_eq_true rfl⟩ ⟨by omega, by omega⟩ [0, 1, 2, 3, 4, 5, 6, 7, 8, 9, 10, 11, 12, 13, 14, 15, 16, 17, 18, 19, 20, 21, 22, 23, 24, 25] 26 ⟨rfl, rfl, rfl, ⟨Or.inl rfl, Or.inr rfl, Or.inr rfl, Or.inl rfl, Or.inl rfl, Or.inl rfl, Or.inl rfl, Or.inl rfl, Or.inl rfl, Or.inl rfl, Or.inl rfl, Or.inl rfl, Or.inl rfl, Or.inl rfl, Or.inl rfl, Or.inl rfl, Or.inl rfl, Or.inl rfl, Or.inl rfl, Or.inl rfl, Or.inl rfl, Or.inl rfl, Or.inr rfl, Or.inr rfl, Or.inr rfl, Or.inr rfl, trivial⟩⟩ (fun h => nomatch h) (Nat.le_of_ble_eq_true rfl) ⟨⟨Or.inr trivial, Or.inl rfl, Or.inl rfl, Or.inr trivial, Or.inr trivial, Or.inr trivial, Or.inr trivial, Or.inr trivial, Or.inr trivial, Or.inr trivial, Or.inr trivial, Or.inr trivial, Or.inr trivial, Or.inr trivial, Or.inr trivial, Or.inr trivial, Or.inr trivial, Or.inr trivial, Or.inr trivial, Or.inr trivial, Or.inr trivial, Or.inr trivial, Or.inl rfl, Or.inl rfl, Or.inl rfl, Or.inl rfl, trivial⟩, rfl, rfl, rfl, Nat.le_of_ble_eq_true rfl⟩ rfl zC7 rfl rfl dX7_clause_238 (fun r_238 w_238 hp => ?_) (fun _ _ h => h.elim)
            obtain ⟨rfl, rfl⟩ := hp
            refine z_weq (w' := [zH, zO _ [zr _ _, zr _ _, zr _ _, zr _ _, zr _ _, zi _, zi _, zr _ _, zr _ _], zAi 3 400 _, zH, zH, zH, zH, zH, zH, zH, zH, zH, zH, zH, zH, zH, zH, zH, zH, zH, zH, zH, zO _ [zi _, zr _ _, zi _, zi _, zi _, zi _, zi _, zi _, zr _ _, zi _, zr _ _], zAi 0 12 _, zO _ [zi _, zi _, zr _ _], zAi 0 24 _]) rfl ?_
            refine z_seq (S' := []) rfl ?_
            refine z_iincN F 1 dX7_clause_241 rfl rfl ?_
            refine z_leq (L' := [_, _, _, _, _, _, _, _]) rfl ?_
            refine z_goto F (tgt := 204) dX7_clause_244 (by decide) ?_
            exact ih (k + 1) _ (by omega) (by omega) (by rw [drow, hdr]; exact j3)
          · obtain ⟨k1, k2, k3⟩ := failr 5 (bad _ hkm j3) (by decide)
            refine z_aload_n F dX7_clause_221 rfl ?_
            refine z_aload_n F dX7_clause_222 rfl ?_
            refine z_get F zC7 (f := 1) rfl (Nat.le_of_ble_eq_true rfl) q563 rfl dX7_clause_223 ?_
            refine z_iload F dX7_clause_226 rfl ?_
            refine z_iconst F (nI 1) dX7_clause_228 rfl ?_
            refine z_isubN F (by omega) dX7_clause_229 ?_
            refine z_ieq (congrArg nI (show k + 1 - 1 = k by omega)) ?_
            refine z_ialdN F rfl (Nat.le_of_ble_eq_true rfl) (by omega) rfl dX7_clause_230 ?_
            refine z_ieq (hg k (by omega)) ?_
            refine z_aload_n F dX7_clause_231 rfl ?_
            refine z_get F zC7 (f := 1) rfl (Nat.le_of_ble_eq_true rfl) q563 rfl dX7_clause_232 ?_
            refine z_iload F dX7_clause_235 rfl ?_
            refine z_ialdN F rfl (Nat.le_of_ble_eq_true rfl) (by omega) rfl dX7_clause_237 ?_
            refine z_ieq (hg (k + 1) (by omega)) ?_
            refine z_callV F (c_join_5 t fp T n d fk g1 z (en tb z b1) (kd tb z b1) b1 (en tb z b1) u1 m (c + 1) (l k) (l (k + 1)) (l24 _ (by omega)) (l24 _ (by omega)) (by omega) j1) 2 rfl (lw_V q732 q734 qs13 q125 q735) (by decide +kernel) ⟨Nat.le_of_ble_eq_true rfl, Nat.le_of_ble_eq_true rfl⟩ ⟨by omega, by omega⟩ [0, 1, 2, 3, 4, 5, 6, 7, 8, 9, 10, 11, 12, 13, 14, 15, 16, 17, 18, 19, 20, 21, 22, 23, 24, 25] 26 ⟨rfl, rfl, rfl, ⟨Or.inl rfl, Or.inr rfl, Or.inr rfl, Or.inl rfl, Or.inl rfl, Or.inl rfl, Or.inl rfl, Or.inl rfl, Or.inl rfl, Or.inl rfl, Or.inl rfl, Or.inl rfl, Or.inl rfl, Or.inl rfl, Or.inl rfl, Or.inl rfl, Or.inl rfl, Or.inl rfl, Or.inl rfl, Or.inl rfl, Or.inl rfl, Or.inl rfl, Or.inr rfl, Or.inr rfl, Or.inr rfl, Or.inr rfl, trivial⟩⟩ (fun h => nomatch h) (Nat.le_of_ble_eq_true rfl) ⟨⟨Or.inr trivial, Or.inl rfl, Or.inl rfl, Or.inr trivial, Or.inr trivial, Or.inr trivial, Or.inr trivial, Or.inr trivial, Or.inr trivial, Or.inr trivial, Or.inr trivial, Or.inr trivial, Or.inr trivial, Or.inr trivial, Or.inr trivial, Or.inr trivial, Or.inr trivial, Or.inr trivial, Or.inr trivial, Or.inr trivial, Or.inr trivial, Or.inr trivial, Or.inl rfl, Or.inl rfl, Or.inl rfl, Or.inl rfl, trivial⟩, rfl, rfl, rfl, Nat.le_of_ble_eq_true rfl⟩ rfl zC7 rfl rfl dX7_clause_238 (fun r_238 w_238 hp => ?_) (fun E_ w_ hx => by obtain ⟨rfl, hb, rfl⟩ := hx; exact zx_out F E hno (by omega) (by omega) (k3 fk g1 u1 m (c + 1)))
            exact hp.elim
          · obtain ⟨k1, k2, k3⟩ := failr 6 (bad _ hkm j3) (by decide)
            refine z_aload_n F dX7_clause_221 rfl ?_
            refine z_aload_n F dX7_clause_222 rfl ?_
            refine z_get F zC7 (f := 1) rfl (Nat.le_of_ble_eq_true rfl) q563 rfl dX7_clause_223 ?_
            refine z_iload F dX7_clause_226 rfl ?_
            refine z_iconst F (nI 1) dX7_clause_228 rfl ?_
            refine z_isubN F (by omega) dX7_clause_229 ?_
            refine z_ieq (congrArg nI (show k + 1 - 1 = k by omega)) ?_
            refine z_ialdN F rfl (Nat.le_of_ble_eq_true rfl) (by omega) rfl dX7_clause_230 ?_
            refine z_ieq (hg k (by omega)) ?_
            refine z_aload_n F dX7_clause_231 rfl ?_
            refine z_get F zC7 (f := 1) rfl (Nat.le_of_ble_eq_true rfl) q563 rfl dX7_clause_232 ?_
            refine z_iload F dX7_clause_235 rfl ?_
            refine z_ialdN F rfl (Nat.le_of_ble_eq_true rfl) (by omega) rfl dX7_clause_237 ?_
            refine z_ieq (hg (k + 1) (by omega)) ?_
            refine z_callV F (c_join_6 t fp T n d fk g1 z (en tb z b1) (kd tb z b1) b1 (en tb z b1) u1 m (c + 1) (l k) (l (k + 1)) (l24 _ (by omega)) (l24 _ (by omega)) (by omega) j1 j2) 2 rfl (lw_V q732 q734 qs13 q125 q735) (by decide +kernel) ⟨Nat.le_of_ble_eq_true rfl, Nat.le_of_ble_eq_true rfl⟩ ⟨by omega, by omega⟩ [0, 1, 2, 3, 4, 5, 6, 7, 8, 9, 10, 11, 12, 13, 14, 15, 16, 17, 18, 19, 20, 21, 22, 23, 24, 25] 26 ⟨rfl, rfl, rfl, ⟨Or.inl rfl, Or.inr rfl, Or.inr rfl, Or.inl rfl, Or.inl rfl, Or.inl rfl, Or.inl rfl, Or.inl rfl, Or.inl rfl, Or.inl rfl, Or.inl rfl, Or.inl rfl, Or.inl rfl, Or.inl rfl, Or.inl rfl, Or.inl rfl, Or.inl rfl, Or.inl rfl, Or.inl rfl, Or.inl rfl, Or.inl rfl, Or.inl rfl, Or.inr rfl, Or.inr rfl, Or.inr rfl, Or.inr rfl, trivial⟩⟩ (fun h => nomatch h) (Nat.le_of_ble_eq_true rfl) ⟨⟨Or.inr trivial, Or.inl rfl, Or.inl rfl, Or.inr trivial, Or.inr trivial, Or.inr trivial, Or.inr trivial, Or.inr trivial, Or.inr trivial, Or.inr trivial, Or.inr trivial, Or.inr trivial, Or.inr trivial, Or.inr trivial, Or.inr trivial, Or.inr trivial, Or.inr trivial, Or.inr trivial, Or.inr trivial, Or.inr trivial, Or.inr trivial, Or.inr trivial, Or.inl rfl, Or.inl rfl, Or.inl rfl, Or.inl rfl, trivial⟩, rfl, rfl, rfl, Nat.le_of_ble_eq_true rfl⟩ rfl zC7 rfl rfl dX7_clause_238 (fun r_238 w_238 hp => ?_) (fun E_ w_ hx => by obtain ⟨rfl, hb, rfl⟩ := hx; exact zx_out F E hno (by omega) (by omega) (k3 fk g1 u1 m (c + 1)))
            exact hp.elim
        refine z_iload F dX7_clause_204 rfl ?_
        refine z_aload_n F dX7_clause_206 rfl ?_
        refine z_get F zC7 (f := 7) rfl (Nat.le_of_ble_eq_true rfl) q570 rfl dX7_clause_207 ?_
        refine z_icmp_geN F (by omega) (by omega) (tgt := 247) dX7_clause_210 (by decide) (fun c_210 => ?_) (fun c_210 => ?_)
        · have ek : k + 1 = m := by omega
          refine z_loc _ ?_ ((tail fk (by rw [show m - 1 = k by omega]; exact hdr)).resolve_right (fun w => w hi01))
          exact ⟨rfl, rfl, rfl, rfl, rfl, rfl, trivial⟩
        · refine z_iload_n F dX7_clause_213 rfl ?_
          refine z_if_neB F (tgt := 221) dX7_clause_214 (by decide) (fun c_214 => ?_) (fun c_214 => ?_)
          · exact J (by omega)
          · refine z_iload_n F dX7_clause_217 rfl ?_
            refine z_if_eqB F (tgt := 247) dX7_clause_218 (by decide) (fun c_218 => ?_) (fun c_218 => ?_)
            · exact absurd (of_decide_eq_false c_218) (by have := of_decide_eq_false c_214; omega)
            · exact J (by omega)
    -- stars
    have star_ : i = 3 → ∀ (x k : Nat) (fk : Nat → Int32), m - (k + 1) < x → k + 1 ≤ m → dstr d f l k = .inl fk → Z X [some (zr 22 0), some (zi (bI (decide (0 = i)))), some (zi (bI (decide (1 = i)))), some (zi (bI (decide (2 = i)))), some (zi (bI (decide (3 = i)))), some (zi (bI (decide (4 = i)))), some (zi (nI (k + 1))), none] [] (rTB t fp T n d fk g1 tb z b1 u1 m (c + 1)) 0 0 275 := by
      intro i3 x
      induction x with
      | zero => intro k fk hx; omega
      | succ x ih =>
        intro k fk hx hk hdr
        have bad : ∀ e, k + 1 < m → dj d (.inl fk) (l 0) (l (k + 1)) = .inr e → lnR d i l m f = .inr e := fun e q h => by
          have h2 : dstr d f l (k + 1) = .inr e := by rw [dstr, hdr]; exact h
          unfold lnR; rw [if_neg (by omega), if_neg (by omega), if_neg (by omega), if_pos i3]; exact dstr_bad h2 (m - 1) (by omega)
        by_cases hkm : k + 1 < m
        · skip
          rcases dj3 d fk (l 0) (l (k + 1)) with ⟨j1, j2, j3⟩ | ⟨j1, j3⟩ | ⟨j1, j2, j3⟩
          · skip
            refine z_iload F dX7_clause_275 rfl ?_
            refine z_aload_n F dX7_clause_277 rfl ?_
            refine z_get F zC7 (f := 7) rfl (Nat.le_of_ble_eq_true rfl) q570 rfl dX7_clause_278 ?_
            refine z_icmp_geN F (by omega) (by omega) (tgt := 312) dX7_clause_281 (by decide) (fun c_281 => ?_) (fun c_281 => ?_)
            · exact absurd c_281 (by omega)
            · refine z_iload F dX7_clause_284 rfl ?_
              refine z_if_eqB F (tgt := 312) dX7_clause_286 (by decide) (fun c_286 => ?_) (fun c_286 => ?_)
              · exact absurd (of_decide_eq_false c_286) (by omega)
              · refine z_aload_n F dX7_clause_289 rfl ?_
                refine z_aload_n F dX7_clause_290 rfl ?_
                refine z_get F zC7 (f := 1) rfl (Nat.le_of_ble_eq_true rfl) q563 rfl dX7_clause_291 ?_
                refine z_iconst F (nI 0) dX7_clause_294 rfl ?_
                refine z_ialdN F rfl (Nat.le_of_ble_eq_true rfl) (by omega) rfl dX7_clause_295 ?_
                refine z_ieq (hg 0 (by omega)) ?_
                refine z_aload_n F dX7_clause_296 rfl ?_
                refine z_get F zC7 (f := 1) rfl (Nat.le_of_ble_eq_true rfl) q563 rfl dX7_clause_297 ?_
                refine z_iload F dX7_clause_300 rfl ?_
                refine z_ialdN F rfl (Nat.le_of_ble_eq_true rfl) (by omega) rfl dX7_clause_302 ?_
                refine z_ieq (hg (k + 1) (by omega)) ?_
                refine z_callV F (c_join_t t fp T n d fk g1 z (en tb z b1) (kd tb z b1) b1 (en tb z b1) u1 m (c + 1) (l 0) (l (k + 1)) (l24 _ (by omega)) (l24 _ (by omega)) (by omega) j1 j2) 2 rfl (lw_V q732 q734 qs13 q125 q735) (by decide +kernel) ⟨Nat.le_of_ble_eq_true rfl, Nat.le_of_ble_eq_true rfl⟩ ⟨by omega, by omega⟩ [0, 1, 2, 3, 4, 5, 6, 7, 8, 9, 10, 11, 12, 13, 14, 15, 16, 17, 18, 19, 20, 21, 22, 23, 24, 25] 26 ⟨rfl, rfl, rfl, ⟨Or.inl rfl, Or.inr rfl, Or.inr rfl, Or.inl rfl, Or.inl rfl, Or.inl rfl, Or.inl rfl, Or.inl rfl, Or.inl rfl, Or.inl rfl, Or.inl rfl, Or.inl rfl, Or.inl rfl, Or.inl rfl, Or.inl rfl, Or.inl rfl, Or.inl rfl, Or.inl rfl, Or.inl rfl, Or.inl rfl, Or.inl rfl, Or.inl rfl, Or.inr rfl, Or.inr rfl, Or.inr rfl, Or.inr rfl, trivial⟩⟩ (fun h => nomatch h) (Nat.le_of_ble_eq_true rfl) ⟨⟨Or.inr trivial, Or.inl rfl, Or.inl rfl, Or.inr trivial, Or.inr trivial, Or.inr trivial, Or.inr trivial, Or.inr trivial, Or.inr trivial, Or.inr trivial, Or.inr trivial, Or.inr trivial, Or.inr trivial, Or.inr trivial, Or.inr trivial, Or.inr trivial, Or.inr trivial, Or.inr trivial, Or.inr trivial, Or.inr trivial, Or.inr trivial, Or.inr trivial, Or.inl rfl, Or.inl rfl, Or.inl rfl, Or.inl rfl, trivial⟩, rfl, rfl, rfl, Nat.le_of_ble_eq_true rfl⟩ rfl zC7 rfl rfl dX7_clause_303 (fun r_303 w_303 hp => ?_) (fun _ _ h => h.elim)
                obtain ⟨rfl, rfl⟩ := hp
                refine z_weq (w' := [zH, zO _ [zr _ _, zr _ _, zr _ _, zr _ _, zr _ _, zi _, zi _, zr _ _, zr _ _], zAi 3 400 _, zH, zH, zH, zH, zH, zH, zH, zH, zH, zH, zH, zH, zH, zH, zH, zH, zH, zH, zH, zO _ [zi _, zr _ _, zi _, zi _, zi _, zi _, zi _, zi _, zr _ _, zi _, zr _ _], zAi 0 12 _, zO _ [zi _, zi _, zr _ _], zAi 0 24 _]) rfl ?_
                refine z_seq (S' := []) rfl ?_
                refine z_iincN F 1 dX7_clause_306 rfl rfl ?_
                refine z_leq (L' := [_, _, _, _, _, _, _, _]) rfl ?_
                refine z_goto F (tgt := 275) dX7_clause_309 (by decide) ?_
                exact ih (k + 1) _ (by omega) (by omega) (by rw [dstr, hdr]; exact j3)
          · obtain ⟨k1, k2, k3⟩ := failr 5 (bad _ hkm j3) (by decide)
            refine z_iload F dX7_clause_275 rfl ?_
            refine z_aload_n F dX7_clause_277 rfl ?_
            refine z_get F zC7 (f := 7) rfl (Nat.le_of_ble_eq_true rfl) q570 rfl dX7_clause_278 ?_
            refine z_icmp_geN F (by omega) (by omega) (tgt := 312) dX7_clause_281 (by decide) (fun c_281 => ?_) (fun c_281 => ?_)
            · exact absurd c_281 (by omega)
            · refine z_iload F dX7_clause_284 rfl ?_
              refine z_if_eqB F (tgt := 312) dX7_clause_286 (by decide) (fun c_286 => ?_) (fun c_286 => ?_)
              · exact absurd (of_decide_eq_false c_286) (by omega)
              · refine z_aload_n F dX7_clause_289 rfl ?_
                refine z_aload_n F dX7_clause_290 rfl ?_
                refine z_get F zC7 (f := 1) rfl (Nat.le_of_ble_eq_true rfl) q563 rfl dX7_clause_291 ?_
                refine z_iconst F (nI 0) dX7_clause_294 rfl ?_
                refine z_ialdN F rfl (Nat.le_of_ble_eq_true rfl) (by omega) rfl dX7_clause_295 ?_
                refine z_ieq (hg 0 (by omega)) ?_
                refine z_aload_n F dX7_clause_296 rfl ?_
                refine z_get F zC7 (f := 1) rfl (Nat.le_of_ble_eq_true rfl) q563 rfl dX7_clause_297 ?_
                refine z_iload F dX7_clause_300 rfl ?_
                refine z_ialdN F rfl (Nat.le_of_ble_eq_true rfl) (by omega) rfl dX7_clause_302 ?_
                refine z_ieq (hg (k + 1) (by omega)) ?_
                refine z_callV F (c_join_5 t fp T n d fk g1 z (en tb z b1) (kd tb z b1) b1 (en tb z b1) u1 m (c + 1) (l 0) (l (k + 1)) (l24 _ (by omega)) (l24 _ (by omega)) (by omega) j1) 2 rfl (lw_V q732 q734 qs13 q125 q735) (by decide +kernel) ⟨Nat.le_of_ble_eq_true rfl, Nat.le_of_ble_eq_true rfl⟩ ⟨by omega, by omega⟩ [0, 1, 2, 3, 4, 5, 6, 7, 8, 9, 10, 11, 12, 13, 14, 15, 16, 17, 18, 19, 20, 21, 22, 23, 24, 25] 26 ⟨rfl, rfl, rfl, ⟨Or.inl rfl, Or.inr rfl, Or.inr rfl, Or.inl rfl, Or.inl rfl, Or.inl rfl, Or.inl rfl, Or.inl rfl, Or.inl rfl, Or.inl rfl, Or.inl rfl, Or.inl rfl, Or.inl rfl, Or.inl rfl, Or.inl rfl, Or.inl rfl, Or.inl rfl, Or.inl rfl, Or.inl rfl, Or.inl rfl, Or.inl rfl, Or.inl rfl, Or.inr rfl, Or.inr rfl, Or.inr rfl, Or.inr rfl, trivial⟩⟩ (fun h => nomatch h) (Nat.le_of_ble_eq_true rfl) ⟨⟨Or.inr trivial, Or.inl rfl, Or.inl rfl, Or.inr trivial, Or.inr trivial, Or.inr trivial, Or.inr trivial, Or.inr trivial, Or.inr trivial, Or.inr trivial, Or.inr trivial, Or.inr trivial, Or.inr trivial, Or.inr trivial, Or.inr trivial, Or.inr trivial, Or.inr trivial, Or.inr trivial, Or.inr trivial, Or.inr trivial, Or.inr trivial, Or.inr trivial, Or.inl rfl, Or.inl rfl, Or.inl rfl, Or.inl rfl, trivial⟩, rfl, rfl, rfl, Nat.le_of_ble_eq_true rfl⟩ rfl zC7 rfl rfl dX7_clause_303 (fun r_303 w_303 hp => ?_) (fun E_ w_ hx => by obtain ⟨rfl, hb, rfl⟩ := hx; exact zx_out F E hno (by omega) (by omega) (k3 fk g1 u1 m (c + 1)))
                exact hp.elim
          · obtain ⟨k1, k2, k3⟩ := failr 6 (bad _ hkm j3) (by decide)
            refine z_iload F dX7_clause_275 rfl ?_
            refine z_aload_n F dX7_clause_277 rfl ?_
            refine z_get F zC7 (f := 7) rfl (Nat.le_of_ble_eq_true rfl) q570 rfl dX7_clause_278 ?_
            refine z_icmp_geN F (by omega) (by omega) (tgt := 312) dX7_clause_281 (by decide) (fun c_281 => ?_) (fun c_281 => ?_)
            · exact absurd c_281 (by omega)
            · refine z_iload F dX7_clause_284 rfl ?_
              refine z_if_eqB F (tgt := 312) dX7_clause_286 (by decide) (fun c_286 => ?_) (fun c_286 => ?_)
              · exact absurd (of_decide_eq_false c_286) (by omega)
              · refine z_aload_n F dX7_clause_289 rfl ?_
                refine z_aload_n F dX7_clause_290 rfl ?_
                refine z_get F zC7 (f := 1) rfl (Nat.le_of_ble_eq_true rfl) q563 rfl dX7_clause_291 ?_
                refine z_iconst F (nI 0) dX7_clause_294 rfl ?_
                refine z_ialdN F rfl (Nat.le_of_ble_eq_true rfl) (by omega) rfl dX7_clause_295 ?_
                refine z_ieq (hg 0 (by omega)) ?_
                refine z_aload_n F dX7_clause_296 rfl ?_
                refine z_get F zC7 (f := 1) rfl (Nat.le_of_ble_eq_true rfl) q563 rfl dX7_clause_297 ?_
                refine z_iload F dX7_clause_300 rfl ?_
                refine z_ialdN F rfl (Nat.le_of_ble_eq_true rfl) (by omega) rfl dX7_clause_302 ?_
                refine z_ieq (hg (k + 1) (by omega)) ?_
                refine z_callV F (c_join_6 t fp T n d fk g1 z (en tb z b1) (kd tb z b1) b1 (en tb z b1) u1 m (c + 1) (l 0) (l (k + 1)) (l24 _ (by omega)) (l24 _ (by omega)) (by omega) j1 j2) 2 rfl (lw_V q732 q734 qs13 q125 q735) (by decide +kernel) ⟨Nat.le_of_ble_eq_true rfl, Nat.le_of_ble_eq_true rfl⟩ ⟨by omega, by omega⟩ [0, 1, 2, 3, 4, 5, 6, 7, 8, 9, 10, 11, 12, 13, 14, 15, 16, 17, 18, 19, 20, 21, 22, 23, 24, 25] 26 ⟨rfl, rfl, rfl, ⟨Or.inl rfl, Or.inr rfl, Or.inr rfl, Or.inl rfl, Or.inl rfl, Or.inl rfl, Or.inl rfl, Or.inl rfl, Or.inl rfl, Or.inl rfl, Or.inl rfl, Or.inl rfl, Or.inl rfl, Or.inl rfl, Or.inl rfl, Or.inl rfl, Or.inl rfl, Or.inl rfl, Or.inl rfl, Or.inl rfl, Or.inl rfl, Or.inl rfl, Or.inr rfl, Or.inr rfl, Or.inr rfl, Or.inr rfl, trivial⟩⟩ (fun h => nomatch h) (Nat.le_of_ble_eq_true rfl) ⟨⟨Or.inr trivial, Or.inl rfl, Or.inl rfl, Or.inr trivial, Or.inr trivial, Or.inr trivial, Or.inr trivial, Or.inr trivial, Or.inr trivial, Or.inr trivial, Or.inr trivial, Or.inr trivial, Or.inr trivial, Or.inr trivial, Or.inr trivial, Or.inr trivial, Or.inr trivial, Or.inr trivial, Or.inr trivial, Or.inr trivial, Or.inr trivial, Or.inr trivial, Or.inl rfl, Or.inl rfl, Or.inl rfl, Or.inl rfl, trivial⟩, rfl, rfl, rfl, Nat.le_of_ble_eq_true rfl⟩ rfl zC7 rfl rfl dX7_clause_303 (fun r_303 w_303 hp => ?_) (fun E_ w_ hx => by obtain ⟨rfl, hb, rfl⟩ := hx; exact zx_out F E hno (by omega) (by omega) (k3 fk g1 u1 m (c + 1)))
                exact hp.elim
        · have ek : k + 1 = m := by omega
          refine z_iload F dX7_clause_275 rfl ?_
          refine z_aload_n F dX7_clause_277 rfl ?_
          refine z_get F zC7 (f := 7) rfl (Nat.le_of_ble_eq_true rfl) q570 rfl dX7_clause_278 ?_
          refine z_icmp_geN F (by omega) (by omega) (tgt := 312) dX7_clause_281 (by decide) (fun c_281 => ?_) (fun c_281 => ?_)
          · refine z_loc _ ?_ (p312 (by omega) fk (e368 fk (by unfold lnR; rw [if_neg (by omega), if_neg (by omega), if_neg (by omega), if_pos i3, show m - 1 = k by omega]; exact hdr)))
            exact ⟨rfl, rfl, rfl, rfl, rfl, rfl, trivial⟩
          · exact absurd c_281 (by omega)
    -- all
    have all_ : i = 2 → ∀ (x k : Nat) (fk : Nat → Int32), m - (k + 1) < x → k + 1 ≤ m → dall d f l k = .inl fk → Z X [some (zr 22 0), some (zi (bI (decide (0 = i)))), some (zi (bI (decide (1 = i)))), some (zi (bI (decide (2 = i)))), some (zi (bI (decide (3 = i)))), some (zi (bI (decide (4 = i)))), some (zi (nI (k + 1))), none] [] (rTB t fp T n d fk g1 tb z b1 u1 m (c + 1)) 0 0 315 := by
      intro i2 x
      induction x with
      | zero => intro k fk hx; omega
      | succ x ih =>
        intro k fk hx hk hdr
        have inn : k + 1 < m → ∀ (y j : Nat) (fj : Nat → Int32), k + 1 - j < y → j ≤ k + 1 → dalr d (.inl fk) l (k + 1) j = .inl fj → Z X [some (zr 22 0), some (zi (bI (decide (0 = i)))), some (zi (bI (decide (1 = i)))), some (zi (bI (decide (2 = i)))), some (zi (bI (decide (3 = i)))), some (zi (bI (decide (4 = i)))), some (zi (nI (k + 1))), some (zi (nI j))] [] (rTB t fp T n d fj g1 tb z b1 u1 m (c + 1)) 0 0 331 := by
          intro hkm y
          induction y with
          | zero => intro j fj hy; omega
          | succ y ih2 =>
            intro j fj hy hj hdj
            have bad : ∀ e, j < k + 1 → dj d (.inl fj) (l j) (l (k + 1)) = .inr e → lnR d i l m f = .inr e := fun e q h => by
              have h2 : dalr d (.inl fk) l (k + 1) (j + 1) = .inr e := by rw [dalr, hdj]; exact h
              have h3 : dall d f l (k + 1) = .inr e := by rw [dall, hdr]; exact dalr_bad h2 (k + 1) (by omega)
              unfold lnR; rw [if_neg (by omega), if_neg (by omega), if_pos i2]; exact dall_bad h3 (m - 1) (by omega)
            by_cases hjk : j < k + 1
            · skip
              rcases dj3 d fj (l j) (l (k + 1)) with ⟨j1, j2, j3⟩ | ⟨j1, j3⟩ | ⟨j1, j2, j3⟩
              · skip
                refine z_iload F dX7_clause_331 rfl ?_
                refine z_iload F dX7_clause_333 rfl ?_
                refine z_icmp_geN F (by omega) (by omega) (tgt := 362) dX7_clause_335 (by decide) (fun c_335 => ?_) (fun c_335 => ?_)
                · exact absurd c_335 (by omega)
                · refine z_aload_n F dX7_clause_338 rfl ?_
                  refine z_aload_n F dX7_clause_339 rfl ?_
                  refine z_get F zC7 (f := 1) rfl (Nat.le_of_ble_eq_true rfl) q563 rfl dX7_clause_340 ?_
                  refine z_iload F dX7_clause_343 rfl ?_
                  refine z_ialdN F rfl (Nat.le_of_ble_eq_true rfl) (by omega) rfl dX7_clause_345 ?_
                  refine z_ieq (hg j (by omega)) ?_
                  refine z_aload_n F dX7_clause_346 rfl ?_
                  refine z_get F zC7 (f := 1) rfl (Nat.le_of_ble_eq_true rfl) q563 rfl dX7_clause_347 ?_
                  refine z_iload F dX7_clause_350 rfl ?_
                  refine z_ialdN F rfl (Nat.le_of_ble_eq_true rfl) (by omega) rfl dX7_clause_352 ?_
                  refine z_ieq (hg (k + 1) (by omega)) ?_
                  refine z_callV F (c_join_t t fp T n d fj g1 z (en tb z b1) (kd tb z b1) b1 (en tb z b1) u1 m (c + 1) (l j) (l (k + 1)) (l24 _ (by omega)) (l24 _ (by omega)) (by omega) j1 j2) 2 rfl (lw_V q732 q734 qs13 q125 q735) (by decide +kernel) ⟨Nat.le_of_ble_eq_true rfl, Nat.le_of_ble_eq_true rfl⟩ ⟨by omega, by omega⟩ [0, 1, 2, 3, 4, 5, 6, 7, 8, 9, 10, 11, 12, 13, 14, 15, 16, 17, 18, 19, 20, 21, 22, 23, 24, 25] 26 ⟨rfl, rfl, rfl, ⟨Or.inl rfl, Or.inr rfl, Or.inr rfl, Or.inl rfl, Or.inl rfl, Or.inl rfl, Or.inl rfl, Or.inl rfl, Or.inl rfl, Or.inl rfl, Or.inl rfl, Or.inl rfl, Or.inl rfl, Or.inl rfl, Or.inl rfl, Or.inl rfl, Or.inl rfl, Or.inl rfl, Or.inl rfl, Or.inl rfl, Or.inl rfl, Or.inl rfl, Or.inr rfl, Or.inr rfl, Or.inr rfl, Or.inr rfl, trivial⟩⟩ (fun h => nomatch h) (Nat.le_of_ble_eq_true rfl) ⟨⟨Or.inr trivial, Or.inl rfl, Or.inl rfl, Or.inr trivial, Or.inr trivial, Or.inr trivial, Or.inr trivial, Or.inr trivial, Or.inr trivial, Or.inr trivial, Or.inr trivial, Or.inr trivial, Or.inr trivial, Or.inr trivial, Or.inr trivial, Or.inr trivial, Or.inr trivial, Or.inr trivial, Or.inr trivial, Or.inr trivial, Or.inr trivial, Or.inr trivial, Or.inl rfl, Or.inl rfl, Or.inl rfl, Or.inl rfl, trivial⟩, rfl, rfl, rfl, Nat.le_of_ble_eq_true rfl⟩ rfl zC7 rfl rfl dX7_clause_353 (fun r_353 w_353 hp => ?_) (fun _ _ h => h.elim)
                  obtain ⟨rfl, rfl⟩ := hp
                  refine z_weq (w' := [zH, zO _ [zr _ _, zr _ _, zr _ _, zr _ _, zr _ _, zi _, zi _, zr _ _, zr _ _], zAi 3 400 _, zH, zH, zH, zH, zH, zH, zH, zH, zH, zH, zH, zH, zH, zH, zH, zH, zH, zH, zH, zO _ [zi _, zr _ _, zi _, zi _, zi _, zi _, zi _, zi _, zr _ _, zi _, zr _ _], zAi 0 12 _, zO _ [zi _, zi _, zr _ _], zAi 0 24 _]) rfl ?_
                  refine z_seq (S' := []) rfl ?_
                  refine z_iincN F 1 dX7_clause_356 rfl rfl ?_
                  refine z_leq (L' := [_, _, _, _, _, _, _, _]) rfl ?_
                  refine z_goto F (tgt := 331) dX7_clause_359 (by decide) ?_
                  exact ih2 (j + 1) _ (by omega) (by omega) (by rw [dalr, hdj]; exact j3)
              · obtain ⟨k1, k2, k3⟩ := failr 5 (bad _ hjk j3) (by decide)
                refine z_iload F dX7_clause_331 rfl ?_
                refine z_iload F dX7_clause_333 rfl ?_
                refine z_icmp_geN F (by omega) (by omega) (tgt := 362) dX7_clause_335 (by decide) (fun c_335 => ?_) (fun c_335 => ?_)
                · exact absurd c_335 (by omega)
                · refine z_aload_n F dX7_clause_338 rfl ?_
                  refine z_aload_n F dX7_clause_339 rfl ?_
                  refine z_get F zC7 (f := 1) rfl (Nat.le_of_ble_eq_true rfl) q563 rfl dX7_clause_340 ?_
                  refine z_iload F dX7_clause_343 rfl ?_
                  refine z_ialdN F rfl (Nat.le_of_ble_eq_true rfl) (by omega) rfl dX7_clause_345 ?_
                  refine z_ieq (hg j (by omega)) ?_
                  refine z_aload_n F dX7_clause_346 rfl ?_
                  refine z_get F zC7 (f := 1) rfl (Nat.le_of_ble_eq_true rfl) q563 rfl dX7_clause_347 ?_
                  refine z_iload F dX7_clause_350 rfl ?_
                  refine z_ialdN F rfl (Nat.le_of_ble_eq_true rfl) (by omega) rfl dX7_clause_352 ?_
                  refine z_ieq (hg (k + 1) (by omega)) ?_
                  refine z_callV F (c_join_5 t fp T n d fj g1 z (en tb z b1) (kd tb z b1) b1 (en tb z b1) u1 m (c + 1) (l j) (l (k + 1)) (l24 _ (by omega)) (l24 _ (by omega)) (by omega) j1) 2 rfl (lw_V q732 q734 qs13 q125 q735) (by decide +kernel) ⟨Nat.le_of_ble_eq_true rfl, Nat.le_of_ble_eq_true rfl⟩ ⟨by omega, by omega⟩ [0, 1, 2, 3, 4, 5, 6, 7, 8, 9, 10, 11, 12, 13, 14, 15, 16, 17, 18, 19, 20, 21, 22, 23, 24, 25] 26 ⟨rfl, rfl, rfl, ⟨Or.inl rfl, Or.inr rfl, Or.inr rfl, Or.inl rfl, Or.inl rfl, Or.inl rfl, Or.inl rfl, Or.inl rfl, Or.inl rfl, Or.inl rfl, Or.inl rfl, Or.inl rfl, Or.inl rfl, Or.inl rfl, Or.inl rfl, Or.inl rfl, Or.inl rfl, Or.inl rfl, Or.inl rfl, Or.inl rfl, Or.inl rfl, Or.inl rfl, Or.inr rfl, Or.inr rfl, Or.inr rfl, Or.inr rfl, trivial⟩⟩ (fun h => nomatch h) (Nat.le_of_ble_eq_true rfl) ⟨⟨Or.inr trivial, Or.inl rfl, Or.inl rfl, Or.inr trivial, Or.inr trivial, Or.inr trivial, Or.inr trivial, Or.inr trivial, Or.inr trivial, Or.inr trivial, Or.inr trivial, Or.inr trivial, Or.inr trivial, Or.inr trivial, Or.inr trivial, Or.inr trivial, Or.inr trivial, Or.inr trivial, Or.inr trivial, Or.inr trivial, Or.inr trivial, Or.inr trivial, Or.inl rfl, Or.inl rfl, Or.inl rfl, Or.inl rfl, trivial⟩, rfl, rfl, rfl, Nat.le_of_ble_eq_true rfl⟩ rfl zC7 rfl rfl dX7_clause_353 (fun r_353 w_353 hp => ?_) (fun E_ w_ hx => by obtain ⟨rfl, hb, rfl⟩ := hx; exact zx_out F E hno (by omega) (by omega) (k3 fj g1 u1 m (c + 1)))
                  exact hp.elim
              · obtain ⟨k1, k2, k3⟩ := failr 6 (bad _ hjk j3) (by decide)
                refine z_iload F dX7_clause_331 rfl ?_
                refine z_iload F dX7_clause_333 rfl ?_
                refine z_icmp_geN F (by omega) (by omega) (tgt := 362) dX7_clause_335 (by decide) (fun c_335 => ?_) (fun c_335 => ?_)
                · exact absurd c_335 (by omega)
                · refine z_aload_n F dX7_clause_338 rfl ?_
                  refine z_aload_n F dX7_clause_339 rfl ?_
                  refine z_get F zC7 (f := 1) rfl (Nat.le_of_ble_eq_true rfl) q563 rfl dX7_clause_340 ?_
                  refine z_iload F dX7_clause_343 rfl ?_
                  refine z_ialdN F rfl (Nat.le_of_ble_eq_true rfl) (by omega) rfl dX7_clause_345 ?_
                  refine z_ieq (hg j (by omega)) ?_
                  refine z_aload_n F dX7_clause_346 rfl ?_
                  refine z_get F zC7 (f := 1) rfl (Nat.le_of_ble_eq_true rfl) q563 rfl dX7_clause_347 ?_
                  refine z_iload F dX7_clause_350 rfl ?_
                  refine z_ialdN F rfl (Nat.le_of_ble_eq_true rfl) (by omega) rfl dX7_clause_352 ?_
                  refine z_ieq (hg (k + 1) (by omega)) ?_
                  refine z_callV F (c_join_6 t fp T n d fj g1 z (en tb z b1) (kd tb z b1) b1 (en tb z b1) u1 m (c + 1) (l j) (l (k + 1)) (l24 _ (by omega)) (l24 _ (by omega)) (by omega) j1 j2) 2 rfl (lw_V q732 q734 qs13 q125 q735) (by decide +kernel) ⟨Nat.le_of_ble_eq_true rfl, Nat.le_of_ble_eq_true rfl⟩ ⟨by omega, by omega⟩ [0, 1, 2, 3, 4, 5, 6, 7, 8, 9, 10, 11, 12, 13, 14, 15, 16, 17, 18, 19, 20, 21, 22, 23, 24, 25] 26 ⟨rfl, rfl, rfl, ⟨Or.inl rfl, Or.inr rfl, Or.inr rfl, Or.inl rfl, Or.inl rfl, Or.inl rfl, Or.inl rfl, Or.inl rfl, Or.inl rfl, Or.inl rfl, Or.inl rfl, Or.inl rfl, Or.inl rfl, Or.inl rfl, Or.inl rfl, Or.inl rfl, Or.inl rfl, Or.inl rfl, Or.inl rfl, Or.inl rfl, Or.inl rfl, Or.inl rfl, Or.inr rfl, Or.inr rfl, Or.inr rfl, Or.inr rfl, trivial⟩⟩ (fun h => nomatch h) (Nat.le_of_ble_eq_true rfl) ⟨⟨Or.inr trivial, Or.inl rfl, Or.inl rfl, Or.inr trivial, Or.inr trivial, Or.inr trivial, Or.inr trivial, Or.inr trivial, Or.inr trivial, Or.inr trivial, Or.inr trivial, Or.inr trivial, Or.inr trivial, Or.inr trivial, Or.inr trivial, Or.inr trivial, Or.inr trivial, Or.inr trivial, Or.inr trivial, Or.inr trivial, Or.inr trivial, Or.inr trivial, Or.inl rfl, Or.inl rfl, Or.inl rfl, Or.inl rfl, trivial⟩, rfl, rfl, rfl, Nat.le_of_ble_eq_true rfl⟩ rfl zC7 rfl rfl dX7_clause_353 (fun r_353 w_353 hp => ?_) (fun E_ w_ hx => by obtain ⟨rfl, hb, rfl⟩ := hx; exact zx_out F E hno (by omega) (by omega) (k3 fj g1 u1 m (c + 1)))
                  exact hp.elim
            · have ej : j = k + 1 := by omega
              subst ej
              refine z_iload F dX7_clause_331 rfl ?_
              refine z_iload F dX7_clause_333 rfl ?_
              refine z_icmp_geN F (by omega) (by omega) (tgt := 362) dX7_clause_335 (by decide) (fun c_335 => ?_) (fun c_335 => ?_)
              · refine z_iincN F 1 dX7_clause_362 rfl rfl ?_
                refine z_leq (L' := [_, _, _, _, _, _, _, _]) rfl ?_
                refine z_goto F (tgt := 315) dX7_clause_365 (by decide) ?_
                refine z_loc _ ?_ (ih (k + 1) fj (by omega) (by omega) (by rw [dall, hdr]; exact hdj))
                exact ⟨rfl, rfl, rfl, rfl, rfl, rfl, rfl, trivial⟩
              · exact absurd c_335 (by omega)
        refine z_iload F dX7_clause_315 rfl ?_
        refine z_aload_n F dX7_clause_317 rfl ?_
        refine z_get F zC7 (f := 7) rfl (Nat.le_of_ble_eq_true rfl) q570 rfl dX7_clause_318 ?_
        refine z_icmp_geN F (by omega) (by omega) (tgt := 368) dX7_clause_321 (by decide) (fun c_321 => ?_) (fun c_321 => ?_)
        · have ek : k + 1 = m := by omega
          refine z_loc _ ?_ (e368 fk (by unfold lnR; rw [if_neg (by omega), if_neg (by omega), if_pos i2, show m - 1 = k by omega]; exact hdr))
          exact ⟨rfl, rfl, rfl, rfl, rfl, rfl, trivial⟩
        · refine z_iload_n F dX7_clause_324 rfl ?_
          refine z_if_eqB F (tgt := 368) dX7_clause_325 (by decide) (fun c_325 => ?_) (fun c_325 => ?_)
          · exact absurd (of_decide_eq_false c_325) (by omega)
          · refine z_iconst F (nI 0) dX7_clause_328 rfl ?_
            refine z_istore F dX7_clause_329 (Nat.le_of_ble_eq_true rfl) ?_
            refine z_leq (L' := [_, _, _, _, _, _, _, _]) rfl ?_
            exact inn (by omega) (k + 2) 0 fk (by omega) (by omega) rfl
    rcases (show i = 0 ∨ i = 1 ∨ i = 2 ∨ i = 3 ∨ i = 4 by omega) with q | q | q | q | q
    · refine p153 (by omega) ?_
      refine z_iconst F (nI 1) dX7_clause_201 rfl ?_
      refine z_istore F dX7_clause_202 (Nat.le_of_ble_eq_true rfl) ?_
      refine z_leq (L' := [_, _, _, _, _, _, _, _]) rfl ?_
      exact rows (Or.inl q) m 0 f (by omega) (by omega) rfl
    · refine p153 (by omega) ?_
      refine z_iconst F (nI 1) dX7_clause_201 rfl ?_
      refine z_istore F dX7_clause_202 (Nat.le_of_ble_eq_true rfl) ?_
      refine z_leq (L' := [_, _, _, _, _, _, _, _]) rfl ?_
      exact rows (Or.inr q) m 0 f (by omega) (by omega) rfl
    · refine p153 (by omega) (p201 (by omega) (by omega) f (p247 (by omega) f (p272 (by omega) f ?_)))
      refine z_iconst F (nI 1) dX7_clause_312 rfl ?_
      refine z_istore F dX7_clause_313 (Nat.le_of_ble_eq_true rfl) ?_
      refine z_leq (L' := [_, _, _, _, _, _, _, _]) rfl ?_
      exact all_ q m 0 f (by omega) (by omega) rfl
    · refine p153 (by omega) (p201 (by omega) (by omega) f (p247 (by omega) f ?_))
      refine z_iconst F (nI 1) dX7_clause_272 rfl ?_
      refine z_istore F dX7_clause_273 (Nat.le_of_ble_eq_true rfl) ?_
      refine z_leq (L' := [_, _, _, _, _, _, _, _]) rfl ?_
      exact star_ q m 0 f (by omega) (by omega) rfl
    · have hln : lnR d i l m f = doff f l := by unfold lnR; rw [if_neg (by omega), if_neg (by omega), if_neg (by omega), if_neg (by omega)]
      rcases Bool.eq_false_or_eq_true (bt (f (l 0)) (l 1)) with j1 | j1
      · skip
        have h1 : lnR d i l m f = .inl (pt f (l 0) (l 1)) := by rw [hln]; unfold doff; exact if_pos j1
        have kk := p201 (by omega) (by omega) _ (p247 (by omega) _ (p272 (by omega) _ (p312 (by omega) _ (e368 _ h1))))
        refine z_iload F dX7_clause_153 rfl ?_
        refine z_if_eqB F (tgt := 201) dX7_clause_155 (by decide) (fun c_155 => ?_) (fun c_155 => ?_)
        · exact absurd (of_decide_eq_false c_155) (by omega)
        · refine z_aload_n F dX7_clause_158 rfl ?_
          refine z_aload_n F dX7_clause_159 rfl ?_
          refine z_get F zC7 (f := 8) rfl (Nat.le_of_ble_eq_true rfl) q571 rfl dX7_clause_160 ?_
          refine z_aload_n F dX7_clause_163 rfl ?_
          refine z_get F zC7 (f := 1) rfl (Nat.le_of_ble_eq_true rfl) q563 rfl dX7_clause_164 ?_
          refine z_iconst F (nI 0) dX7_clause_167 rfl ?_
          refine z_ialdN F rfl (Nat.le_of_ble_eq_true rfl) (by omega) rfl dX7_clause_168 ?_
          refine z_ieq (hg 0 (by omega)) ?_
          refine z_aload_n F dX7_clause_169 rfl ?_
          refine z_get F zC7 (f := 1) rfl (Nat.le_of_ble_eq_true rfl) q563 rfl dX7_clause_170 ?_
          refine z_iconst F (nI 1) dX7_clause_173 rfl ?_
          refine z_ialdN F rfl (Nat.le_of_ble_eq_true rfl) (by omega) rfl dX7_clause_174 ?_
          refine z_ieq (hg 1 (by omega)) ?_
          refine z_callV F (c_has (nI n) (nI d) f (l 0) (l 1) (l24 _ (by omega)) (l24 _ (by omega))) 2 rfl (lw_V q730 q508 q509 q116 q510) (by decide +kernel) ⟨Nat.le_of_ble_eq_true rfl, Nat.le_of_ble_eq_true rfl⟩ ⟨by omega, by omega⟩ [0, 24, 25] 26 ⟨rfl, rfl, rfl, ⟨Or.inl rfl, Or.inr rfl, Or.inr rfl, trivial⟩⟩ (fun h => nomatch h) (Nat.le_of_ble_eq_true rfl) ⟨⟨Or.inr trivial, Or.inr rfl, Or.inr trivial, Or.inr trivial, Or.inr trivial, Or.inr trivial, Or.inr trivial, Or.inr trivial, Or.inr trivial, Or.inr trivial, Or.inr trivial, Or.inr trivial, Or.inr trivial, Or.inr trivial, Or.inr trivial, Or.inr trivial, Or.inr trivial, Or.inr trivial, Or.inr trivial, Or.inr trivial, Or.inr trivial, Or.inr trivial, Or.inr rfl, Or.inr trivial, Or.inl rfl, Or.inl rfl, trivial⟩, rfl, rfl, rfl, Nat.le_of_ble_eq_true rfl⟩ rfl zC5 rfl rfl dX7_clause_175 (fun r_175 w_175 hp => ?_) (fun _ _ h => h.elim)
          obtain ⟨rfl, rfl⟩ := hp
          rw [j1]
          refine z_weq (w' := [zH, zO _ [zr _ _, zr _ _, zr _ _, zr _ _, zr _ _, zi _, zi _, zr _ _, zr _ _], zAi 3 400 _, zH, zH, zH, zH, zH, zH, zH, zH, zH, zH, zH, zH, zH, zH, zH, zH, zH, zH, zH, zO _ [zi _, zr _ _, zi _, zi _, zi _, zi _, zi _, zi _, zr _ _, zi _, zr _ _], zAi 0 12 _, zO _ [zi _, zi _, zr _ _], zAi 0 24 _]) rfl ?_
          refine z_seq (S' := zi _ :: _) rfl ?_
          refine z_iconst F (nI 5) dX7_clause_178 rfl ?_
          refine z_callVH F (c_want_t 5) 2 rfl (lw_V q678 q680 qs8 q125 q681) (by decide +kernel) ⟨Nat.le_of_ble_eq_true rfl, Nat.le_of_ble_eq_true rfl⟩ ⟨by omega, by omega⟩ [0, 22] 26 ⟨rfl, rfl, rfl, ⟨Or.inl rfl, Or.inl rfl, trivial⟩⟩ (fun h => nomatch h) (Nat.le_of_ble_eq_true rfl) ⟨⟨Or.inr trivial, Or.inr rfl, Or.inr trivial, Or.inr trivial, Or.inr trivial, Or.inr trivial, Or.inr trivial, Or.inr trivial, Or.inr trivial, Or.inr trivial, Or.inr trivial, Or.inr trivial, Or.inr trivial, Or.inr trivial, Or.inr trivial, Or.inr trivial, Or.inr trivial, Or.inr trivial, Or.inr trivial, Or.inr trivial, Or.inr trivial, Or.inr trivial, Or.inr rfl, Or.inr trivial, Or.inr rfl, Or.inr trivial, trivial⟩, rfl, rfl, rfl, Nat.le_of_ble_eq_true rfl⟩ rfl zC7 rfl rfl dX7_clause_179 (fun r_179 w_179 hp => ?_) (fun _ _ h => h.elim)
          obtain ⟨rfl, rfl⟩ := hp
          refine z_weq (w' := [zH, zO _ [zr _ _, zr _ _, zr _ _, zr _ _, zr _ _, zi _, zi _, zr _ _, zr _ _], zAi 3 400 _, zH, zH, zH, zH, zH, zH, zH, zH, zH, zH, zH, zH, zH, zH, zH, zH, zH, zH, zH, zO _ [zi _, zr _ _, zi _, zi _, zi _, zi _, zi _, zi _, zr _ _, zi _, zr _ _], zAi 0 12 _, zO _ [zi _, zi _, zr _ _], zAi 0 24 _]) rfl ?_
          refine z_seq (S' := []) rfl ?_
          refine z_aload_n F dX7_clause_182 rfl ?_
          refine z_get F zC7 (f := 8) rfl (Nat.le_of_ble_eq_true rfl) q571 rfl dX7_clause_183 ?_
          refine z_aload_n F dX7_clause_186 rfl ?_
          refine z_get F zC7 (f := 1) rfl (Nat.le_of_ble_eq_true rfl) q563 rfl dX7_clause_187 ?_
          refine z_iconst F (nI 0) dX7_clause_190 rfl ?_
          refine z_ialdN F rfl (Nat.le_of_ble_eq_true rfl) (by omega) rfl dX7_clause_191 ?_
          refine z_ieq (hg 0 (by omega)) ?_
          refine z_aload_n F dX7_clause_192 rfl ?_
          refine z_get F zC7 (f := 1) rfl (Nat.le_of_ble_eq_true rfl) q563 rfl dX7_clause_193 ?_
          refine z_iconst F (nI 1) dX7_clause_196 rfl ?_
          refine z_ialdN F rfl (Nat.le_of_ble_eq_true rfl) (by omega) rfl dX7_clause_197 ?_
          refine z_ieq (hg 1 (by omega)) ?_
          refine z_callV F (c_clear (nI n) (nI d) f (l 0) (l 1) (l24 _ (by omega)) (l24 _ (by omega))) 2 rfl (lw_V q731 q526 q527 q116 q528) (by decide +kernel) ⟨Nat.le_of_ble_eq_true rfl, Nat.le_of_ble_eq_true rfl⟩ ⟨by omega, by omega⟩ [0, 24, 25] 26 ⟨rfl, rfl, rfl, ⟨Or.inl rfl, Or.inr rfl, Or.inr rfl, trivial⟩⟩ (fun h => nomatch h) (Nat.le_of_ble_eq_true rfl) ⟨⟨Or.inr trivial, Or.inr rfl, Or.inr trivial, Or.inr trivial, Or.inr trivial, Or.inr trivial, Or.inr trivial, Or.inr trivial, Or.inr trivial, Or.inr trivial, Or.inr trivial, Or.inr trivial, Or.inr trivial, Or.inr trivial, Or.inr trivial, Or.inr trivial, Or.inr trivial, Or.inr trivial, Or.inr trivial, Or.inr trivial, Or.inr trivial, Or.inr trivial, Or.inr rfl, Or.inr trivial, Or.inl rfl, Or.inl rfl, trivial⟩, rfl, rfl, rfl, Nat.le_of_ble_eq_true rfl⟩ rfl zC5 rfl rfl dX7_clause_198 (fun r_198 w_198 hp => ?_) (fun _ _ h => h.elim)
          obtain ⟨rfl, rfl⟩ := hp
          refine z_weq (w' := [zH, zO _ [zr _ _, zr _ _, zr _ _, zr _ _, zr _ _, zi _, zi _, zr _ _, zr _ _], zAi 3 400 _, zH, zH, zH, zH, zH, zH, zH, zH, zH, zH, zH, zH, zH, zH, zH, zH, zH, zH, zH, zO _ [zi _, zr _ _, zi _, zi _, zi _, zi _, zi _, zi _, zr _ _, zi _, zr _ _], zAi 0 12 _, zO _ [zi _, zi _, zr _ _], zAi 0 24 _]) rfl ?_
          refine z_seq (S' := []) rfl ?_
          exact kk
      · skip
        obtain ⟨k1, k2, k3⟩ := failr 5 (by rw [hln]; unfold doff; exact if_neg (by rw [j1]; decide)) (by decide)
        refine z_iload F dX7_clause_153 rfl ?_
        refine z_if_eqB F (tgt := 201) dX7_clause_155 (by decide) (fun c_155 => ?_) (fun c_155 => ?_)
        · exact absurd (of_decide_eq_false c_155) (by omega)
        · refine z_aload_n F dX7_clause_158 rfl ?_
          refine z_aload_n F dX7_clause_159 rfl ?_
          refine z_get F zC7 (f := 8) rfl (Nat.le_of_ble_eq_true rfl) q571 rfl dX7_clause_160 ?_
          refine z_aload_n F dX7_clause_163 rfl ?_
          refine z_get F zC7 (f := 1) rfl (Nat.le_of_ble_eq_true rfl) q563 rfl dX7_clause_164 ?_
          refine z_iconst F (nI 0) dX7_clause_167 rfl ?_
          refine z_ialdN F rfl (Nat.le_of_ble_eq_true rfl) (by omega) rfl dX7_clause_168 ?_
          refine z_ieq (hg 0 (by omega)) ?_
          refine z_aload_n F dX7_clause_169 rfl ?_
          refine z_get F zC7 (f := 1) rfl (Nat.le_of_ble_eq_true rfl) q563 rfl dX7_clause_170 ?_
          refine z_iconst F (nI 1) dX7_clause_173 rfl ?_
          refine z_ialdN F rfl (Nat.le_of_ble_eq_true rfl) (by omega) rfl dX7_clause_174 ?_
          refine z_ieq (hg 1 (by omega)) ?_
          refine z_callV F (c_has (nI n) (nI d) f (l 0) (l 1) (l24 _ (by omega)) (l24 _ (by omega))) 2 rfl (lw_V q730 q508 q509 q116 q510) (by decide +kernel) ⟨Nat.le_of_ble_eq_true rfl, Nat.le_of_ble_eq_true rfl⟩ ⟨by omega, by omega⟩ [0, 24, 25] 26 ⟨rfl, rfl, rfl, ⟨Or.inl rfl, Or.inr rfl, Or.inr rfl, trivial⟩⟩ (fun h => nomatch h) (Nat.le_of_ble_eq_true rfl) ⟨⟨Or.inr trivial, Or.inr rfl, Or.inr trivial, Or.inr trivial, Or.inr trivial, Or.inr trivial, Or.inr trivial, Or.inr trivial, Or.inr trivial, Or.inr trivial, Or.inr trivial, Or.inr trivial, Or.inr trivial, Or.inr trivial, Or.inr trivial, Or.inr trivial, Or.inr trivial, Or.inr trivial, Or.inr trivial, Or.inr trivial, Or.inr trivial, Or.inr trivial, Or.inr rfl, Or.inr trivial, Or.inl rfl, Or.inl rfl, trivial⟩, rfl, rfl, rfl, Nat.le_of_ble_eq_true rfl⟩ rfl zC5 rfl rfl dX7_clause_175 (fun r_175 w_175 hp => ?_) (fun _ _ h => h.elim)
          obtain ⟨rfl, rfl⟩ := hp
          rw [j1]
          refine z_weq (w' := [zH, zO _ [zr _ _, zr _ _, zr _ _, zr _ _, zr _ _, zi _, zi _, zr _ _, zr _ _], zAi 3 400 _, zH, zH, zH, zH, zH, zH, zH, zH, zH, zH, zH, zH, zH, zH, zH, zH, zH, zH, zH, zO _ [zi _, zr _ _, zi _, zi _, zi _, zi _, zi _, zi _, zr _ _, zi _, zr _ _], zAi 0 12 _, zO _ [zi _, zi _, zr _ _], zAi 0 24 _]) rfl ?_
          refine z_seq (S' := zi _ :: _) rfl ?_
          refine z_iconst F (nI 5) dX7_clause_178 rfl ?_
          refine z_callVH F (c_want_f 5) 2 rfl (lw_V q678 q680 qs8 q125 q681) (by decide +kernel) ⟨Nat.le_of_ble_eq_true rfl, Nat.le_of_ble_eq_true rfl⟩ ⟨by omega, by omega⟩ [0, 22] 26 ⟨rfl, rfl, rfl, ⟨Or.inl rfl, Or.inl rfl, trivial⟩⟩ (fun h => nomatch h) (Nat.le_of_ble_eq_true rfl) ⟨⟨Or.inr trivial, Or.inr rfl, Or.inr trivial, Or.inr trivial, Or.inr trivial, Or.inr trivial, Or.inr trivial, Or.inr trivial, Or.inr trivial, Or.inr trivial, Or.inr trivial, Or.inr trivial, Or.inr trivial, Or.inr trivial, Or.inr trivial, Or.inr trivial, Or.inr trivial, Or.inr trivial, Or.inr trivial, Or.inr trivial, Or.inr trivial, Or.inr trivial, Or.inr rfl, Or.inr trivial, Or.inr rfl, Or.inr trivial, trivial⟩, rfl, rfl, rfl, Nat.le_of_ble_eq_true rfl⟩ rfl zC7 rfl rfl dX7_clause_179 (fun r_179 w_179 hp => ?_) (fun E_ w_ hx => by obtain ⟨rfl, hb, rfl⟩ := hx; exact zx_out F E hno (by omega) (by omega) (k3 f g1 u1 m (c + 1)))
          exact hp.elim
  -- behind the knots
  have at135 : c ≠ 20 → ∀ (b1 m u1 : Nat) (l : Nat → Nat) (g1 : Nat → Int32), clK tb z n i b = (0, b1, l, m) → b1 ≤ z → TS tb z u1 b1 → lok n l m → 2 ≤ m → (∀ k, k < m → g1 k = nI (l k)) → Z X [some (zr 22 0), some (zi (bI (decide (0 = i)))), some (zi (bI (decide (1 = i)))), some (zi (bI (decide (2 = i)))), some (zi (bI (decide (3 = i)))), some (zi (bI (decide (4 = i)))), none, none] [] (rTB t fp T n d f g1 tb z b1 u1 m (c + 1)) 0 0 135 := by
    intro hc20 b1 m u1 l g1 hcK hb1 hu1 hl hm2 hg
    have hk5 := kd_lt tb z b1
    by_cases h3 : kd tb z b1 = 3
    · skip
      refine z_aload_n F dX7_clause_135 rfl ?_
      refine z_aload_n F dX7_clause_136 rfl ?_
      refine z_get F zC7 (f := 3) rfl (Nat.le_of_ble_eq_true rfl) q565 rfl dX7_clause_137 ?_
      refine z_iconst F (nI 3) dX7_clause_140 rfl ?_
      refine z_icmp_neN F (by omega) (by omega) (tgt := 148) dX7_clause_141 (by decide) (fun c_141 => ?_) (fun c_141 => ?_)
      · exact absurd c_141 (by omega)
      · refine z_iconstB F true dX7_clause_144 rfl ?_
        refine z_goto F (tgt := 149) dX7_clause_145 (by decide) ?_
        refine z_iconst F (nI 1) dX7_clause_149 rfl ?_
        refine z_callVH F (c_want_t 1) 2 rfl (lw_V q678 q680 qs8 q125 q681) (by decide +kernel) ⟨Nat.le_of_ble_eq_true rfl, Nat.le_of_ble_eq_true rfl⟩ ⟨by omega, by omega⟩ [0, 22] 26 ⟨rfl, rfl, rfl, ⟨Or.inl rfl, Or.inl rfl, trivial⟩⟩ (fun h => nomatch h) (Nat.le_of_ble_eq_true rfl) ⟨⟨Or.inr trivial, Or.inr rfl, Or.inr trivial, Or.inr trivial, Or.inr trivial, Or.inr trivial, Or.inr trivial, Or.inr trivial, Or.inr trivial, Or.inr trivial, Or.inr trivial, Or.inr trivial, Or.inr trivial, Or.inr trivial, Or.inr trivial, Or.inr trivial, Or.inr trivial, Or.inr trivial, Or.inr trivial, Or.inr trivial, Or.inr trivial, Or.inr trivial, Or.inr rfl, Or.inr trivial, Or.inr rfl, Or.inr trivial, trivial⟩, rfl, rfl, rfl, Nat.le_of_ble_eq_true rfl⟩ rfl zC7 rfl rfl dX7_clause_150 (fun r_150 w_150 hp => ?_) (fun _ _ h => h.elim)
        obtain ⟨rfl, rfl⟩ := hp
        refine z_weq (w' := [zH, zO _ [zr _ _, zr _ _, zr _ _, zr _ _, zr _ _, zi _, zi _, zr _ _, zr _ _], zAi 3 400 _, zH, zH, zH, zH, zH, zH, zH, zH, zH, zH, zH, zH, zH, zH, zH, zH, zH, zH, zH, zO _ [zi _, zr _ _, zi _, zi _, zi _, zi _, zi _, zi _, zr _ _, zi _, zr _ _], zAi 0 12 _, zO _ [zi _, zi _, zr _ _], zAi 0 24 _]) rfl ?_
        refine z_seq (S' := []) rfl ?_
        exact lines hc20 b1 m u1 l g1 hcK h3 hb1 hu1 hl hm2 hg
    · obtain ⟨k1, k2, k3⟩ := fail 1 b1 (clS_3 hk hi4 hc20 hcK h3) (by decide)
      refine z_aload_n F dX7_clause_135 rfl ?_
      refine z_aload_n F dX7_clause_136 rfl ?_
      refine z_get F zC7 (f := 3) rfl (Nat.le_of_ble_eq_true rfl) q565 rfl dX7_clause_137 ?_
      refine z_iconst F (nI 3) dX7_clause_140 rfl ?_
      refine z_icmp_neN F (by omega) (by omega) (tgt := 148) dX7_clause_141 (by decide) (fun c_141 => ?_) (fun c_141 => ?_)
      · refine z_iconstB F false dX7_clause_148 rfl ?_
        refine z_iconst F (nI 1) dX7_clause_149 rfl ?_
        refine z_callVH F (c_want_f 1) 2 rfl (lw_V q678 q680 qs8 q125 q681) (by decide +kernel) ⟨Nat.le_of_ble_eq_true rfl, Nat.le_of_ble_eq_true rfl⟩ ⟨by omega, by omega⟩ [0, 22] 26 ⟨rfl, rfl, rfl, ⟨Or.inl rfl, Or.inl rfl, trivial⟩⟩ (fun h => nomatch h) (Nat.le_of_ble_eq_true rfl) ⟨⟨Or.inr trivial, Or.inr rfl, Or.inr trivial, Or.inr trivial, Or.inr trivial, Or.inr trivial, Or.inr trivial, Or.inr trivial, Or.inr trivial, Or.inr trivial, Or.inr trivial, Or.inr trivial, Or.inr trivial, Or.inr trivial, Or.inr trivial, Or.inr trivial, Or.inr trivial, Or.inr trivial, Or.inr trivial, Or.inr trivial, Or.inr trivial, Or.inr trivial, Or.inr rfl, Or.inr trivial, Or.inr rfl, Or.inr trivial, trivial⟩, rfl, rfl, rfl, Nat.le_of_ble_eq_true rfl⟩ rfl zC7 rfl rfl dX7_clause_150 (fun r_150 w_150 hp => ?_) (fun E_ w_ hx => by obtain ⟨rfl, hb, rfl⟩ := hx; exact zx_out F E hno (by omega) (by omega) (k3 f g1 u1 m (c + 1)))
        exact hp.elim
      · exact absurd c_141 (by omega)
  -- further knots
  have at115 : c ≠ 20 → i ≠ 4 → ∀ (x b1 m u1 : Nat) (l : Nat → Nat) (g1 : Nat → Int32), clK tb z n i b = knL tb z n x (0, b1, l, m) → 13 ≤ x + m → b1 ≤ z → TS tb z u1 b1 → lok n l m → 2 ≤ m → (∀ k, k < m → g1 k = nI (l k)) → Z X [some (zr 22 0), some (zi (bI (decide (0 = i)))), some (zi (bI (decide (1 = i)))), some (zi (bI (decide (2 = i)))), some (zi (bI (decide (3 = i)))), some (zi (bI (decide (4 = i)))), none, none] [] (rTB t fp T n d f g1 tb z b1 u1 m (c + 1)) 0 0 115 := by
    intro hc20 hi x
    induction x with
    | zero => intro b1 m u1 l g1 hcK hx hb1 hu1 hl; have := hl.2.2; omega
    | succ x ih =>
      intro b1 m u1 l g1 hcK hx hb1 hu1 hl hm2 hg
      have hk5 := kd_lt tb z b1
      by_cases h2 : kd tb z b1 = 2
      · have hcK2 : clK tb z n i b = knL tb z n x (kn1 tb z n (0, b1, l, m)) := by rw [hcK, knL, if_pos ⟨rfl, h2⟩]
        by_cases hE : knE tb z n l m b1 = 0
        · rw [kn1_0 hE] at hcK2
          obtain ⟨y1, y2, y3, y4, y5⟩ := knE_0 hE
          have hl2 := lok_put hl y4 (by have := hl.2.2; omega) y5
          refine z_aload_n F dX7_clause_115 rfl ?_
          refine z_get F zC7 (f := 3) rfl (Nat.le_of_ble_eq_true rfl) q565 rfl dX7_clause_116 ?_
          refine z_iconst F (nI 2) dX7_clause_119 rfl ?_
          refine z_icmp_neN F (by omega) (by omega) (tgt := 135) dX7_clause_120 (by decide) (fun c_120 => ?_) (fun c_120 => ?_)
          · exact absurd c_120 (by omega)
          · refine z_iload F dX7_clause_123 rfl ?_
            refine z_if_neB F (tgt := 135) dX7_clause_125 (by decide) (fun c_125 => ?_) (fun c_125 => ?_)
            · exact absurd (of_decide_eq_true c_125) (by omega)
            · refine z_aload_n F dX7_clause_128 rfl ?_
              refine z_callV F (c_knot_t t fp T n d f g1 tb z b1 u1 m (c + 1) l hz hT htb hb1 hu1.2 hn24 hl hg hE) 0 rfl (lw_V q726 q728 qs12 q125 q729) (by decide +kernel) ⟨Nat.le_of_ble_eq_true rfl, Nat.le_of_ble_eq_true rfl⟩ ⟨by omega, by omega⟩ [0, 1, 2, 3, 4, 5, 6, 7, 8, 9, 10, 11, 12, 13, 14, 15, 16, 17, 18, 19, 20, 21, 22, 23, 24, 25] 26 ⟨rfl, rfl, rfl, ⟨Or.inl rfl, Or.inr rfl, Or.inr rfl, Or.inl rfl, Or.inl rfl, Or.inl rfl, Or.inl rfl, Or.inl rfl, Or.inl rfl, Or.inl rfl, Or.inl rfl, Or.inl rfl, Or.inl rfl, Or.inl rfl, Or.inl rfl, Or.inl rfl, Or.inl rfl, Or.inl rfl, Or.inl rfl, Or.inl rfl, Or.inl rfl, Or.inl rfl, Or.inr rfl, Or.inr rfl, Or.inr rfl, Or.inr rfl, trivial⟩⟩ (fun h => nomatch h) (Nat.le_of_ble_eq_true rfl) ⟨⟨Or.inr trivial, Or.inl rfl, Or.inl rfl, Or.inr trivial, Or.inr trivial, Or.inr trivial, Or.inr trivial, Or.inr trivial, Or.inr trivial, Or.inr trivial, Or.inr trivial, Or.inr trivial, Or.inr trivial, Or.inr trivial, Or.inr trivial, Or.inr trivial, Or.inr trivial, Or.inr trivial, Or.inr trivial, Or.inr trivial, Or.inr trivial, Or.inr trivial, Or.inl rfl, Or.inl rfl, Or.inl rfl, Or.inl rfl, trivial⟩, rfl, rfl, rfl, Nat.le_of_ble_eq_true rfl⟩ rfl zC7 rfl rfl dX7_clause_129 (fun r_129 w_129 hp => ?_) (fun _ _ h => h.elim)
              obtain ⟨rfl, g2, rfl, hg2⟩ := hp
              refine z_weq (w' := [zH, zO _ [zr _ _, zr _ _, zr _ _, zr _ _, zr _ _, zi _, zi _, zr _ _, zr _ _], zAi 3 400 _, zH, zH, zH, zH, zH, zH, zH, zH, zH, zH, zH, zH, zH, zH, zH, zH, zH, zH, zH, zO _ [zi _, zr _ _, zi _, zi _, zi _, zi _, zi _, zi _, zr _ _, zi _, zr _ _], zAi 0 12 _, zO _ [zi _, zi _, zr _ _], zAi 0 24 _]) rfl ?_
              refine z_seq (S' := []) rfl ?_
              refine z_goto F (tgt := 115) dX7_clause_132 (by decide) ?_
              exact ih _ _ _ _ g2 hcK2 (by omega) (nb_le hb1) (nuV_ok hu1.1) hl2 (by omega) hg2
        · have hcK3 : clK tb z n i b = (knE tb z n l m b1, b1, l, m) := by
            rw [hcK2, kn1_e hE]
            exact knL_bad (fun w => hE w.1) x
          obtain ⟨k1, k2, k3⟩ := fail _ _ (clS_e hk hi4 hc20 hcK3 hE) hE
          refine z_aload_n F dX7_clause_115 rfl ?_
          refine z_get F zC7 (f := 3) rfl (Nat.le_of_ble_eq_true rfl) q565 rfl dX7_clause_116 ?_
          refine z_iconst F (nI 2) dX7_clause_119 rfl ?_
          refine z_icmp_neN F (by omega) (by omega) (tgt := 135) dX7_clause_120 (by decide) (fun c_120 => ?_) (fun c_120 => ?_)
          · exact absurd c_120 (by omega)
          · refine z_iload F dX7_clause_123 rfl ?_
            refine z_if_neB F (tgt := 135) dX7_clause_125 (by decide) (fun c_125 => ?_) (fun c_125 => ?_)
            · exact absurd (of_decide_eq_true c_125) (by omega)
            · refine z_aload_n F dX7_clause_128 rfl ?_
              refine z_callV F (c_knot_f t fp T n d f g1 tb z b1 u1 m (c + 1) l hz hT htb hb1 hu1.1 hu1.2 hn24 hl hg hE) 0 rfl (lw_V q726 q728 qs12 q125 q729) (by decide +kernel) ⟨Nat.le_of_ble_eq_true rfl, Nat.le_of_ble_eq_true rfl⟩ ⟨by omega, by omega⟩ [0, 1, 2, 3, 4, 5, 6, 7, 8, 9, 10, 11, 12, 13, 14, 15, 16, 17, 18, 19, 20, 21, 22, 23, 24, 25] 26 ⟨rfl, rfl, rfl, ⟨Or.inl rfl, Or.inr rfl, Or.inr rfl, Or.inl rfl, Or.inl rfl, Or.inl rfl, Or.inl rfl, Or.inl rfl, Or.inl rfl, Or.inl rfl, Or.inl rfl, Or.inl rfl, Or.inl rfl, Or.inl rfl, Or.inl rfl, Or.inl rfl, Or.inl rfl, Or.inl rfl, Or.inl rfl, Or.inl rfl, Or.inl rfl, Or.inl rfl, Or.inr rfl, Or.inr rfl, Or.inr rfl, Or.inr rfl, trivial⟩⟩ (fun h => nomatch h) (Nat.le_of_ble_eq_true rfl) ⟨⟨Or.inr trivial, Or.inl rfl, Or.inl rfl, Or.inr trivial, Or.inr trivial, Or.inr trivial, Or.inr trivial, Or.inr trivial, Or.inr trivial, Or.inr trivial, Or.inr trivial, Or.inr trivial, Or.inr trivial, Or.inr trivial, Or.inr trivial, Or.inr trivial, Or.inr trivial, Or.inr trivial, Or.inr trivial, Or.inr trivial, Or.inr trivial, Or.inr trivial, Or.inl rfl, Or.inl rfl, Or.inl rfl, Or.inl rfl, trivial⟩, rfl, rfl, rfl, Nat.le_of_ble_eq_true rfl⟩ rfl zC7 rfl rfl dX7_clause_129 (fun r_129 w_129 hp => ?_) (fun E_ w_ hx => by obtain ⟨rfl, hb, rfl⟩ := hx; exact zx_out F E hno (by omega) (by omega) (k3 f g1 u1 m (c + 1)))
              exact hp.elim
      · have hcK2 : clK tb z n i b = (0, b1, l, m) := by rw [hcK]; exact knL_bad (fun w => h2 w.2) (x + 1)
        refine z_aload_n F dX7_clause_115 rfl ?_
        refine z_get F zC7 (f := 3) rfl (Nat.le_of_ble_eq_true rfl) q565 rfl dX7_clause_116 ?_
        refine z_iconst F (nI 2) dX7_clause_119 rfl ?_
        refine z_icmp_neN F (by omega) (by omega) (tgt := 135) dX7_clause_120 (by decide) (fun c_120 => ?_) (fun c_120 => ?_)
        · exact at135 hc20 b1 m u1 l g1 hcK2 hb1 hu1 hl hm2 hg
        · exact absurd c_120 (by omega)
  have off115 : c ≠ 20 → i = 4 → ∀ (b1 m u1 : Nat) (l : Nat → Nat) (g1 : Nat → Int32), clK tb z n i b = (0, b1, l, m) → b1 ≤ z → TS tb z u1 b1 → lok n l m → 2 ≤ m → (∀ k, k < m → g1 k = nI (l k)) → Z X [some (zr 22 0), some (zi (bI (decide (0 = i)))), some (zi (bI (decide (1 = i)))), some (zi (bI (decide (2 = i)))), some (zi (bI (decide (3 = i)))), some (zi (bI (decide (4 = i)))), none, none] [] (rTB t fp T n d f g1 tb z b1 u1 m (c + 1)) 0 0 115 := by
    intro hc20 hi b1 m u1 l g1 hcK hb1 hu1 hl hm2 hg
    have hk5 := kd_lt tb z b1
    refine z_aload_n F dX7_clause_115 rfl ?_
    refine z_get F zC7 (f := 3) rfl (Nat.le_of_ble_eq_true rfl) q565 rfl dX7_clause_116 ?_
    refine z_iconst F (nI 2) dX7_clause_119 rfl ?_
    refine z_icmp_neN F (by omega) (by omega) (tgt := 135) dX7_clause_120 (by decide) (fun c_120 => ?_) (fun c_120 => ?_)
    · exact at135 hc20 b1 m u1 l g1 hcK hb1 hu1 hl hm2 hg
    · refine z_iload F dX7_clause_123 rfl ?_
      refine z_if_neB F (tgt := 135) dX7_clause_125 (by decide) (fun c_125 => ?_) (fun c_125 => ?_)
      · exact at135 hc20 b1 m u1 l g1 hcK hb1 hu1 hl hm2 hg
      · exact absurd (of_decide_eq_false c_125) (by omega)
  -- the second knot
  have clK_of : ∀ s, kn1 tb z n (0, nb tb z b, fun _ => 0, 0) = s → clK tb z n i b = (if i = 4 then kn1 tb z n s else knL tb z n 11 (kn1 tb z n s)) := fun s h => by unfold clK; rw [h]
  have at111 : c ≠ 20 → ∀ (b1 u1 : Nat) (l : Nat → Nat) (g1 : Nat → Int32), kn1 tb z n (0, nb tb z b, fun _ => 0, 0) = (0, b1, l, 1) → b1 ≤ z → TS tb z u1 b1 → lok n l 1 → (∀ k, k < 1 → g1 k = nI (l k)) → Z X [some (zr 22 0), some (zi (bI (decide (0 = i)))), some (zi (bI (decide (1 = i)))), some (zi (bI (decide (2 = i)))), some (zi (bI (decide (3 = i)))), some (zi (bI (decide (4 = i)))), none, none] [] (rTB t fp T n d f g1 tb z b1 u1 1 (c + 1)) 0 0 111 := by
    intro hc20 b1 u1 l g1 hs hb1 hu1 hl hg
    have hcK := clK_of _ hs
    by_cases hE : knE tb z n l 1 b1 = 0
    · rw [kn1_0 hE] at hcK
      obtain ⟨y1, y2, y3, y4, y5⟩ := knE_0 hE
      have hl2 := lok_put hl y4 (by omega) y5
      refine z_aload_n F dX7_clause_111 rfl ?_
      refine z_callV F (c_knot_t t fp T n d f g1 tb z b1 u1 1 (c + 1) l hz hT htb hb1 hu1.2 hn24 hl hg hE) 0 rfl (lw_V q726 q728 qs12 q125 q729) (by decide +kernel) ⟨Nat.le_of_ble_eq_true rfl, Nat.le_of_ble_eq_true rfl⟩ ⟨by omega, by omega⟩ [0, 1, 2, 3, 4, 5, 6, 7, 8, 9, 10, 11, 12, 13, 14, 15, 16, 17, 18, 19, 20, 21, 22, 23, 24, 25] 26 ⟨rfl, rfl, rfl, ⟨Or.inl rfl, Or.inr rfl, Or.inr rfl, Or.inl rfl, Or.inl rfl, Or.inl rfl, Or.inl rfl, Or.inl rfl, Or.inl rfl, Or.inl rfl, Or.inl rfl, Or.inl rfl, Or.inl rfl, Or.inl rfl, Or.inl rfl, Or.inl rfl, Or.inl rfl, Or.inl rfl, Or.inl rfl, Or.inl rfl, Or.inl rfl, Or.inl rfl, Or.inr rfl, Or.inr rfl, Or.inr rfl, Or.inr rfl, trivial⟩⟩ (fun h => nomatch h) (Nat.le_of_ble_eq_true rfl) ⟨⟨Or.inr trivial, Or.inl rfl, Or.inl rfl, Or.inr trivial, Or.inr trivial, Or.inr trivial, Or.inr trivial, Or.inr trivial, Or.inr trivial, Or.inr trivial, Or.inr trivial, Or.inr trivial, Or.inr trivial, Or.inr trivial, Or.inr trivial, Or.inr trivial, Or.inr trivial, Or.inr trivial, Or.inr trivial, Or.inr trivial, Or.inr trivial, Or.inr trivial, Or.inl rfl, Or.inl rfl, Or.inl rfl, Or.inl rfl, trivial⟩, rfl, rfl, rfl, Nat.le_of_ble_eq_true rfl⟩ rfl zC7 rfl rfl dX7_clause_112 (fun r_112 w_112 hp => ?_) (fun _ _ h => h.elim)
      obtain ⟨rfl, g2, rfl, hg2⟩ := hp
      refine z_weq (w' := [zH, zO _ [zr _ _, zr _ _, zr _ _, zr _ _, zr _ _, zi _, zi _, zr _ _, zr _ _], zAi 3 400 _, zH, zH, zH, zH, zH, zH, zH, zH, zH, zH, zH, zH, zH, zH, zH, zH, zH, zH, zH, zO _ [zi _, zr _ _, zi _, zi _, zi _, zi _, zi _, zi _, zr _ _, zi _, zr _ _], zAi 0 12 _, zO _ [zi _, zi _, zr _ _], zAi 0 24 _]) rfl ?_
      refine z_seq (S' := []) rfl ?_
      by_cases q : i = 4
      · rw [if_pos q] at hcK
        exact off115 hc20 q _ _ _ _ g2 hcK (nb_le hb1) (nuV_ok hu1.1) hl2 (by omega) hg2
      · rw [if_neg q] at hcK
        exact at115 hc20 q 11 _ _ _ _ g2 hcK (by omega) (nb_le hb1) (nuV_ok hu1.1) hl2 (by omega) hg2
    · rw [kn1_e hE] at hcK
      have hcK3 : clK tb z n i b = (knE tb z n l 1 b1, b1, l, 1) := by
        rw [hcK]
        split
        · rfl
        · exact knL_bad (fun w => hE w.1) 11
      obtain ⟨k1, k2, k3⟩ := fail _ _ (clS_e hk hi4 hc20 hcK3 hE) hE
      refine z_aload_n F dX7_clause_111 rfl ?_
      refine z_callV F (c_knot_f t fp T n d f g1 tb z b1 u1 1 (c + 1) l hz hT htb hb1 hu1.1 hu1.2 hn24 hl hg hE) 0 rfl (lw_V q726 q728 qs12 q125 q729) (by decide +kernel) ⟨Nat.le_of_ble_eq_true rfl, Nat.le_of_ble_eq_true rfl⟩ ⟨by omega, by omega⟩ [0, 1, 2, 3, 4, 5, 6, 7, 8, 9, 10, 11, 12, 13, 14, 15, 16, 17, 18, 19, 20, 21, 22, 23, 24, 25] 26 ⟨rfl, rfl, rfl, ⟨Or.inl rfl, Or.inr rfl, Or.inr rfl, Or.inl rfl, Or.inl rfl, Or.inl rfl, Or.inl rfl, Or.inl rfl, Or.inl rfl, Or.inl rfl, Or.inl rfl, Or.inl rfl, Or.inl rfl, Or.inl rfl, Or.inl rfl, Or.inl rfl, Or.inl rfl, Or.inl rfl, Or.inl rfl, Or.inl rfl, Or.inl rfl, Or.inl rfl, Or.inr rfl, Or.inr rfl, Or.inr rfl, Or.inr rfl, trivial⟩⟩ (fun h => nomatch h) (Nat.le_of_ble_eq_true rfl) ⟨⟨Or.inr trivial, Or.inl rfl, Or.inl rfl, Or.inr trivial, Or.inr trivial, Or.inr trivial, Or.inr trivial, Or.inr trivial, Or.inr trivial, Or.inr trivial, Or.inr trivial, Or.inr trivial, Or.inr trivial, Or.inr trivial, Or.inr trivial, Or.inr trivial, Or.inr trivial, Or.inr trivial, Or.inr trivial, Or.inr trivial, Or.inr trivial, Or.inr trivial, Or.inl rfl, Or.inl rfl, Or.inl rfl, Or.inl rfl, trivial⟩, rfl, rfl, rfl, Nat.le_of_ble_eq_true rfl⟩ rfl zC7 rfl rfl dX7_clause_112 (fun r_112 w_112 hp => ?_) (fun E_ w_ hx => by obtain ⟨rfl, hb, rfl⟩ := hx; exact zx_out F E hno (by omega) (by omega) (k3 f g1 u1 1 (c + 1)))
      exact hp.elim
  -- the first knot
  have at107 : c ≠ 20 → ∀ (b1 u1 : Nat), b1 = nb tb z b → b1 ≤ z → TS tb z u1 b1 → Z X [some (zr 22 0), some (zi (bI (decide (0 = i)))), some (zi (bI (decide (1 = i)))), some (zi (bI (decide (2 = i)))), some (zi (bI (decide (3 = i)))), some (zi (bI (decide (4 = i)))), none, none] [] (rTB t fp T n d f g tb z b1 u1 0 (c + 1)) 0 0 107 := by
    intro hc20 b1 u1 hb0 hb1 hu1
    have hl := lok_0 n (fun _ => 0)
    have hg : ∀ k, k < 0 → g k = nI ((fun _ => 0 : Nat → Nat) k) := fun k q => absurd q (by omega)
    by_cases hE : knE tb z n (fun _ => 0) 0 b1 = 0
    · have hs := kn1_0 hE
      obtain ⟨y1, y2, y3, y4, y5⟩ := knE_0 hE
      have hl2 := lok_put hl y4 (by omega) y5
      rw [hb0] at hs
      refine z_aload_n F dX7_clause_107 rfl ?_
      refine z_callV F (c_knot_t t fp T n d f g tb z b1 u1 0 (c + 1) (fun _ => 0) hz hT htb hb1 hu1.2 hn24 hl hg hE) 0 rfl (lw_V q726 q728 qs12 q125 q729) (by decide +kernel) ⟨Nat.le_of_ble_eq_true rfl, Nat.le_of_ble_eq_true rfl⟩ ⟨by omega, by omega⟩ [0, 1, 2, 3, 4, 5, 6, 7, 8, 9, 10, 11, 12, 13, 14, 15, 16, 17, 18, 19, 20, 21, 22, 23, 24, 25] 26 ⟨rfl, rfl, rfl, ⟨Or.inl rfl, Or.inr rfl, Or.inr rfl, Or.inl rfl, Or.inl rfl, Or.inl rfl, Or.inl rfl, Or.inl rfl, Or.inl rfl, Or.inl rfl, Or.inl rfl, Or.inl rfl, Or.inl rfl, Or.inl rfl, Or.inl rfl, Or.inl rfl, Or.inl rfl, Or.inl rfl, Or.inl rfl, Or.inl rfl, Or.inl rfl, Or.inl rfl, Or.inr rfl, Or.inr rfl, Or.inr rfl, Or.inr rfl, trivial⟩⟩ (fun h => nomatch h) (Nat.le_of_ble_eq_true rfl) ⟨⟨Or.inr trivial, Or.inl rfl, Or.inl rfl, Or.inr trivial, Or.inr trivial, Or.inr trivial, Or.inr trivial, Or.inr trivial, Or.inr trivial, Or.inr trivial, Or.inr trivial, Or.inr trivial, Or.inr trivial, Or.inr trivial, Or.inr trivial, Or.inr trivial, Or.inr trivial, Or.inr trivial, Or.inr trivial, Or.inr trivial, Or.inr trivial, Or.inr trivial, Or.inl rfl, Or.inl rfl, Or.inl rfl, Or.inl rfl, trivial⟩, rfl, rfl, rfl, Nat.le_of_ble_eq_true rfl⟩ rfl zC7 rfl rfl dX7_clause_108 (fun r_108 w_108 hp => ?_) (fun _ _ h => h.elim)
      obtain ⟨rfl, g2, rfl, hg2⟩ := hp
      refine z_weq (w' := [zH, zO _ [zr _ _, zr _ _, zr _ _, zr _ _, zr _ _, zi _, zi _, zr _ _, zr _ _], zAi 3 400 _, zH, zH, zH, zH, zH, zH, zH, zH, zH, zH, zH, zH, zH, zH, zH, zH, zH, zH, zH, zO _ [zi _, zr _ _, zi _, zi _, zi _, zi _, zi _, zi _, zr _ _, zi _, zr _ _], zAi 0 12 _, zO _ [zi _, zi _, zr _ _], zAi 0 24 _]) rfl ?_
      refine z_seq (S' := []) rfl ?_
      exact at111 hc20 _ _ _ g2 (by rw [hb0]; exact hs) (nb_le hb1) (nuV_ok hu1.1) hl2 hg2
    · have hs := kn1_e hE
      rw [hb0] at hs hE
      have hcK := clK_of _ hs
      have hcK3 : clK tb z n i b = (knE tb z n (fun _ => 0) 0 b1, b1, fun _ => 0, 0) := by
        rw [hcK, kn1_st (show (knE tb z n (fun _ => 0) 0 (nb tb z b)) ≠ 0 from hE), hb0]
        split
        · rfl
        · exact knL_bad (fun w => hE w.1) 11
      rw [← hb0] at hE
      obtain ⟨k1, k2, k3⟩ := fail _ _ (clS_e hk hi4 hc20 hcK3 hE) hE
      refine z_aload_n F dX7_clause_107 rfl ?_
      refine z_callV F (c_knot_f t fp T n d f g tb z b1 u1 0 (c + 1) (fun _ => 0) hz hT htb hb1 hu1.1 hu1.2 hn24 hl hg hE) 0 rfl (lw_V q726 q728 qs12 q125 q729) (by decide +kernel) ⟨Nat.le_of_ble_eq_true rfl, Nat.le_of_ble_eq_true rfl⟩ ⟨by omega, by omega⟩ [0, 1, 2, 3, 4, 5, 6, 7, 8, 9, 10, 11, 12, 13, 14, 15, 16, 17, 18, 19, 20, 21, 22, 23, 24, 25] 26 ⟨rfl, rfl, rfl, ⟨Or.inl rfl, Or.inr rfl, Or.inr rfl, Or.inl rfl, Or.inl rfl, Or.inl rfl, Or.inl rfl, Or.inl rfl, Or.inl rfl, Or.inl rfl, Or.inl rfl, Or.inl rfl, Or.inl rfl, Or.inl rfl, Or.inl rfl, Or.inl rfl, Or.inl rfl, Or.inl rfl, Or.inl rfl, Or.inl rfl, Or.inl rfl, Or.inl rfl, Or.inr rfl, Or.inr rfl, Or.inr rfl, Or.inr rfl, trivial⟩⟩ (fun h => nomatch h) (Nat.le_of_ble_eq_true rfl) ⟨⟨Or.inr trivial, Or.inl rfl, Or.inl rfl, Or.inr trivial, Or.inr trivial, Or.inr trivial, Or.inr trivial, Or.inr trivial, Or.inr trivial, Or.inr trivial, Or.inr trivial, Or.inr trivial, Or.inr trivial, Or.inr trivial, Or.inr trivial, Or.inr trivial, Or.inr trivial, Or.inr trivial, Or.inr trivial, Or.inr trivial, Or.inr trivial, Or.inr trivial, Or.inl rfl, Or.inl rfl, Or.inl rfl, Or.inl rfl, trivial⟩, rfl, rfl, rfl, Nat.le_of_ble_eq_true rfl⟩ rfl zC7 rfl rfl dX7_clause_108 (fun r_108 w_108 hp => ?_) (fun E_ w_ hx => by obtain ⟨rfl, hb, rfl⟩ := hx; exact zx_out F E hno (by omega) (by omega) (k3 f g u1 0 (c + 1)))
      exact hp.elim
  have at60 : Z X [some (zr 22 0), some (zi (bI (decide (0 = i)))), some (zi (bI (decide (1 = i)))), some (zi (bI (decide (2 = i)))), some (zi (bI (decide (3 = i)))), some (zi (bI (decide (4 = i)))), none, none] [zr 22 0] (rTB t fp T n d f g tb z b u m0 c) 0 0 60 := by
    by_cases hc20 : c = 20
    · obtain ⟨k1, k2, k3⟩ := fail 2 b (by unfold clS; rw [hk]; exact (if_neg hi4).trans (if_pos hc20)) (by decide)
      refine z_iconstB F true dX7_clause_60 rfl ?_
      refine z_goto F (tgt := 65) dX7_clause_61 (by decide) ?_
      refine z_iconst F (nI 1) dX7_clause_65 rfl ?_
      refine z_callVH F (c_want_t 1) 2 rfl (lw_V q678 q680 qs8 q125 q681) (by decide +kernel) ⟨Nat.le_of_ble_eq_true rfl, Nat.le_of_ble_eq_true rfl⟩ ⟨by omega, by omega⟩ [0, 22] 26 ⟨rfl, rfl, rfl, ⟨Or.inl rfl, Or.inl rfl, trivial⟩⟩ (fun h => nomatch h) (Nat.le_of_ble_eq_true rfl) ⟨⟨Or.inr trivial, Or.inr rfl, Or.inr trivial, Or.inr trivial, Or.inr trivial, Or.inr trivial, Or.inr trivial, Or.inr trivial, Or.inr trivial, Or.inr trivial, Or.inr trivial, Or.inr trivial, Or.inr trivial, Or.inr trivial, Or.inr trivial, Or.inr trivial, Or.inr trivial, Or.inr trivial, Or.inr trivial, Or.inr trivial, Or.inr trivial, Or.inr trivial, Or.inr rfl, Or.inr trivial, Or.inr rfl, Or.inr trivial, trivial⟩, rfl, rfl, rfl, Nat.le_of_ble_eq_true rfl⟩ rfl zC7 rfl rfl dX7_clause_66 (fun r_66 w_66 hp => ?_) (fun _ _ h => h.elim)
      obtain ⟨rfl, rfl⟩ := hp
      refine z_weq (w' := [zH, zO _ [zr _ _, zr _ _, zr _ _, zr _ _, zr _ _, zi _, zi _, zr _ _, zr _ _], zAi 3 400 _, zH, zH, zH, zH, zH, zH, zH, zH, zH, zH, zH, zH, zH, zH, zH, zH, zH, zH, zH, zO _ [zi _, zr _ _, zi _, zi _, zi _, zi _, zi _, zi _, zr _ _, zi _, zr _ _], zAi 0 12 _, zO _ [zi _, zi _, zr _ _], zAi 0 24 _]) rfl ?_
      refine z_seq (S' := []) rfl ?_
      refine z_aload_n F dX7_clause_69 rfl ?_
      refine z_aload_n F dX7_clause_70 rfl ?_
      refine z_get F zC7 (f := 9) rfl (Nat.le_of_ble_eq_true rfl) q572 rfl dX7_clause_71 ?_
      refine z_bipush F (nI 20) dX7_clause_74 rfl ?_
      refine z_icmp_geN F (by omega) (by omega) (tgt := 83) dX7_clause_76 (by decide) (fun c_76 => ?_) (fun c_76 => ?_)
      · refine z_iconstB F false dX7_clause_83 rfl ?_
        refine z_iconst F (nI 2) dX7_clause_84 rfl ?_
        refine z_callVH F (c_want_f 2) 2 rfl (lw_V q678 q680 qs8 q125 q681) (by decide +kernel) ⟨Nat.le_of_ble_eq_true rfl, Nat.le_of_ble_eq_true rfl⟩ ⟨by omega, by omega⟩ [0, 22] 26 ⟨rfl, rfl, rfl, ⟨Or.inl rfl, Or.inl rfl, trivial⟩⟩ (fun h => nomatch h) (Nat.le_of_ble_eq_true rfl) ⟨⟨Or.inr trivial, Or.inr rfl, Or.inr trivial, Or.inr trivial, Or.inr trivial, Or.inr trivial, Or.inr trivial, Or.inr trivial, Or.inr trivial, Or.inr trivial, Or.inr trivial, Or.inr trivial, Or.inr trivial, Or.inr trivial, Or.inr trivial, Or.inr trivial, Or.inr trivial, Or.inr trivial, Or.inr trivial, Or.inr trivial, Or.inr trivial, Or.inr trivial, Or.inr rfl, Or.inr trivial, Or.inr rfl, Or.inr trivial, trivial⟩, rfl, rfl, rfl, Nat.le_of_ble_eq_true rfl⟩ rfl zC7 rfl rfl dX7_clause_85 (fun r_85 w_85 hp => ?_) (fun E_ w_ hx => by obtain ⟨rfl, hb, rfl⟩ := hx; exact zx_out F E hno (by omega) (by omega) (k3 f g u m0 c))
        exact hp.elim
      · exact absurd c_76 (by omega)
    · skip
      refine z_iconstB F true dX7_clause_60 rfl ?_
      refine z_goto F (tgt := 65) dX7_clause_61 (by decide) ?_
      refine z_iconst F (nI 1) dX7_clause_65 rfl ?_
      refine z_callVH F (c_want_t 1) 2 rfl (lw_V q678 q680 qs8 q125 q681) (by decide +kernel) ⟨Nat.le_of_ble_eq_true rfl, Nat.le_of_ble_eq_true rfl⟩ ⟨by omega, by omega⟩ [0, 22] 26 ⟨rfl, rfl, rfl, ⟨Or.inl rfl, Or.inl rfl, trivial⟩⟩ (fun h => nomatch h) (Nat.le_of_ble_eq_true rfl) ⟨⟨Or.inr trivial, Or.inr rfl, Or.inr trivial, Or.inr trivial, Or.inr trivial, Or.inr trivial, Or.inr trivial, Or.inr trivial, Or.inr trivial, Or.inr trivial, Or.inr trivial, Or.inr trivial, Or.inr trivial, Or.inr trivial, Or.inr trivial, Or.inr trivial, Or.inr trivial, Or.inr trivial, Or.inr trivial, Or.inr trivial, Or.inr trivial, Or.inr trivial, Or.inr rfl, Or.inr trivial, Or.inr rfl, Or.inr trivial, trivial⟩, rfl, rfl, rfl, Nat.le_of_ble_eq_true rfl⟩ rfl zC7 rfl rfl dX7_clause_66 (fun r_66 w_66 hp => ?_) (fun _ _ h => h.elim)
      obtain ⟨rfl, rfl⟩ := hp
      refine z_weq (w' := [zH, zO _ [zr _ _, zr _ _, zr _ _, zr _ _, zr _ _, zi _, zi _, zr _ _, zr _ _], zAi 3 400 _, zH, zH, zH, zH, zH, zH, zH, zH, zH, zH, zH, zH, zH, zH, zH, zH, zH, zH, zH, zO _ [zi _, zr _ _, zi _, zi _, zi _, zi _, zi _, zi _, zr _ _, zi _, zr _ _], zAi 0 12 _, zO _ [zi _, zi _, zr _ _], zAi 0 24 _]) rfl ?_
      refine z_seq (S' := []) rfl ?_
      refine z_aload_n F dX7_clause_69 rfl ?_
      refine z_aload_n F dX7_clause_70 rfl ?_
      refine z_get F zC7 (f := 9) rfl (Nat.le_of_ble_eq_true rfl) q572 rfl dX7_clause_71 ?_
      refine z_bipush F (nI 20) dX7_clause_74 rfl ?_
      refine z_icmp_geN F (by omega) (by omega) (tgt := 83) dX7_clause_76 (by decide) (fun c_76 => ?_) (fun c_76 => ?_)
      · exact absurd c_76 (by omega)
      · refine z_iconstB F true dX7_clause_79 rfl ?_
        refine z_goto F (tgt := 84) dX7_clause_80 (by decide) ?_
        refine z_iconst F (nI 2) dX7_clause_84 rfl ?_
        refine z_callVH F (c_want_t 2) 2 rfl (lw_V q678 q680 qs8 q125 q681) (by decide +kernel) ⟨Nat.le_of_ble_eq_true rfl, Nat.le_of_ble_eq_true rfl⟩ ⟨by omega, by omega⟩ [0, 22] 26 ⟨rfl, rfl, rfl, ⟨Or.inl rfl, Or.inl rfl, trivial⟩⟩ (fun h => nomatch h) (Nat.le_of_ble_eq_true rfl) ⟨⟨Or.inr trivial, Or.inr rfl, Or.inr trivial, Or.inr trivial, Or.inr trivial, Or.inr trivial, Or.inr trivial, Or.inr trivial, Or.inr trivial, Or.inr trivial, Or.inr trivial, Or.inr trivial, Or.inr trivial, Or.inr trivial, Or.inr trivial, Or.inr trivial, Or.inr trivial, Or.inr trivial, Or.inr trivial, Or.inr trivial, Or.inr trivial, Or.inr trivial, Or.inr rfl, Or.inr trivial, Or.inr rfl, Or.inr trivial, trivial⟩, rfl, rfl, rfl, Nat.le_of_ble_eq_true rfl⟩ rfl zC7 rfl rfl dX7_clause_85 (fun r_85 w_85 hp => ?_) (fun _ _ h => h.elim)
        obtain ⟨rfl, rfl⟩ := hp
        refine z_weq (w' := [zH, zO _ [zr _ _, zr _ _, zr _ _, zr _ _, zr _ _, zi _, zi _, zr _ _, zr _ _], zAi 3 400 _, zH, zH, zH, zH, zH, zH, zH, zH, zH, zH, zH, zH, zH, zH, zH, zH, zH, zH, zH, zO _ [zi _, zr _ _, zi _, zi _, zi _, zi _, zi _, zi _, zr _ _, zi _, zr _ _], zAi 0 12 _, zO _ [zi _, zi _, zr _ _], zAi 0 24 _]) rfl ?_
        refine z_seq (S' := []) rfl ?_
        refine z_aload_n F dX7_clause_88 rfl ?_
        refine z_dup F dX7_clause_89 rfl ?_
        refine z_get F zC7 (f := 9) rfl (Nat.le_of_ble_eq_true rfl) q572 rfl dX7_clause_90 ?_
        refine z_iconst F (nI 1) dX7_clause_93 rfl ?_
        refine z_iaddN F dX7_clause_94 ?_
        refine z_put F zC7 (f := 9) rfl (Nat.le_of_ble_eq_true rfl) q572 rfl (fun _ => rfl) (fun _ => rfl) (Nat.le_of_ble_eq_true rfl) dX7_clause_95 ?_
        refine z_weq (w' := [_, _, _, _, _, _, _, _, _, _, _, _, _, _, _, _, _, _, _, _, _, _, zO _ [_, _, _, _, _, _, _, _, _, _, _], _, _, _]) rfl ?_
        refine z_aload_n F dX7_clause_98 rfl ?_
        refine z_callV F (c_nextB t fp T n d f g z (en tb z b) (kd tb z b) b (en tb z b) u m0 (c + 1) tb hz hT htb ((en_ge tb z b).2 hb)) 0 rfl (lw_V q601 q603 qs2 q125 q604) (by decide +kernel) ⟨Nat.le_of_ble_eq_true rfl, Nat.le_of_ble_eq_true rfl⟩ ⟨by omega, by omega⟩ [0, 1, 2, 3, 4, 5, 6, 7, 8, 9, 10, 11, 12, 13, 14, 15, 16, 17, 18, 19, 20, 21, 22, 23, 24, 25] 26 ⟨rfl, rfl, rfl, ⟨Or.inl rfl, Or.inr rfl, Or.inr rfl, Or.inl rfl, Or.inl rfl, Or.inl rfl, Or.inl rfl, Or.inl rfl, Or.inl rfl, Or.inl rfl, Or.inl rfl, Or.inl rfl, Or.inl rfl, Or.inl rfl, Or.inl rfl, Or.inl rfl, Or.inl rfl, Or.inl rfl, Or.inl rfl, Or.inl rfl, Or.inl rfl, Or.inl rfl, Or.inr rfl, Or.inr rfl, Or.inr rfl, Or.inr rfl, trivial⟩⟩ (fun h => nomatch h) (Nat.le_of_ble_eq_true rfl) ⟨⟨Or.inr trivial, Or.inl rfl, Or.inl rfl, Or.inr trivial, Or.inr trivial, Or.inr trivial, Or.inr trivial, Or.inr trivial, Or.inr trivial, Or.inr trivial, Or.inr trivial, Or.inr trivial, Or.inr trivial, Or.inr trivial, Or.inr trivial, Or.inr trivial, Or.inr trivial, Or.inr trivial, Or.inr trivial, Or.inr trivial, Or.inr trivial, Or.inr trivial, Or.inl rfl, Or.inl rfl, Or.inl rfl, Or.inl rfl, trivial⟩, rfl, rfl, rfl, Nat.le_of_ble_eq_true rfl⟩ rfl zC7 rfl rfl dX7_clause_99 (fun r_99 w_99 hp => ?_) (fun _ _ h => h.elim)
        obtain ⟨rfl, rfl⟩ := hp
        refine z_weq (w' := [zH, zO _ [zr _ _, zr _ _, zr _ _, zr _ _, zr _ _, zi _, zi _, zr _ _, zr _ _], zAi 3 400 _, zH, zH, zH, zH, zH, zH, zH, zH, zH, zH, zH, zH, zH, zH, zH, zH, zH, zH, zH, zO _ [zi _, zr _ _, zi _, zi _, zi _, zi _, zi _, zi _, zr _ _, zi _, zr _ _], zAi 0 12 _, zO _ [zi _, zi _, zr _ _], zAi 0 24 _]) rfl ?_
        refine z_seq (S' := []) rfl ?_
        refine z_aload_n F dX7_clause_102 rfl ?_
        refine z_iconst F (nI 0) dX7_clause_103 rfl ?_
        refine z_put F zC7 (f := 7) rfl (Nat.le_of_ble_eq_true rfl) q570 rfl (fun _ => rfl) (fun _ => rfl) (Nat.le_of_ble_eq_true rfl) dX7_clause_104 ?_
        refine z_weq (w' := [_, _, _, _, _, _, _, _, _, _, _, _, _, _, _, _, _, _, _, _, _, _, zO _ [_, _, _, _, _, _, _, _, _, _, _], _, _, _]) rfl ?_
        exact at107 hc20 _ _ rfl (nb_le hb) (nuV_ok hu.1)
  refine z_aload_n F dX7_clause_0 rfl ?_
  refine z_ldcS F (F.con.2.2.2.2.2.2.2.2.2.1 (ksI 0) (ksI_lt (by decide))) dX7_clause_1 ?_
  refine z_callVD F (c_isB _ t fp T n d f g z b u m0 c 0 tb hz hT hb (by omega)) 1 rfl (lw_V q626 q628 qs7 q125 q629) (by decide +kernel) ⟨Nat.le_of_ble_eq_true rfl, Nat.le_of_ble_eq_true rfl⟩ ⟨by omega, by omega⟩ [0, 1, 2, 3, 4, 5, 6, 7, 8, 9, 10, 11, 12, 13, 14, 15, 16, 17, 18, 19, 20, 21, 22, 23, 24, 25] 26 ⟨rfl, rfl, rfl, ⟨Or.inl rfl, Or.inr rfl, Or.inr rfl, Or.inl rfl, Or.inl rfl, Or.inl rfl, Or.inl rfl, Or.inl rfl, Or.inl rfl, Or.inl rfl, Or.inl rfl, Or.inl rfl, Or.inl rfl, Or.inl rfl, Or.inl rfl, Or.inl rfl, Or.inl rfl, Or.inl rfl, Or.inl rfl, Or.inl rfl, Or.inl rfl, Or.inl rfl, Or.inr rfl, Or.inr rfl, Or.inr rfl, Or.inr rfl, trivial⟩⟩ (fun h => nomatch h) (Nat.le_of_ble_eq_true rfl) ⟨⟨Or.inr trivial, Or.inl rfl, Or.inl rfl, Or.inr trivial, Or.inr trivial, Or.inr trivial, Or.inr trivial, Or.inr trivial, Or.inr trivial, Or.inr trivial, Or.inr trivial, Or.inr trivial, Or.inr trivial, Or.inr trivial, Or.inr trivial, Or.inr trivial, Or.inr trivial, Or.inr trivial, Or.inr trivial, Or.inr trivial, Or.inr trivial, Or.inr trivial, Or.inl rfl, Or.inl rfl, Or.inl rfl, Or.inl rfl, trivial⟩, rfl, rfl, rfl, Nat.le_of_ble_eq_true rfl⟩ rfl zC7 rfl rfl dX7_clause_3 (fun r_3 w_3 hp => ?_) (fun _ _ h => h.elim)
  obtain ⟨rfl, rfl⟩ := hp
  rw [hw (show 0 < 7 by omega)]
  refine z_weq (w' := [zH, zO _ [zr _ _, zr _ _, zr _ _, zr _ _, zr _ _, zi _, zi _, zr _ _, zr _ _], zAi 3 400 _, zH, zH, zH, zH, zH, zH, zH, zH, zH, zH, zH, zH, zH, zH, zH, zH, zH, zH, zH, zO _ [zi _, zr _ _, zi _, zi _, zi _, zi _, zi _, zi _, zr _ _, zi _, zr _ _], zAi 0 12 _, zO _ [zi _, zi _, zr _ _], zAi 0 24 _]) rfl ?_
  refine z_seq (S' := zi _ :: _) rfl ?_
  refine z_istore_n F dX7_clause_6 (Nat.le_of_ble_eq_true rfl) ?_
  refine z_leq (L' := [_, _, _, _, _, _, _, _]) rfl ?_
  refine z_aload_n F dX7_clause_7 rfl ?_
  refine z_ldcS F (F.con.2.2.2.2.2.2.2.2.2.1 (ksI 1) (ksI_lt (by decide))) dX7_clause_8 ?_
  refine z_callVD F (c_isB _ t fp T n d f g z b u m0 c 1 tb hz hT hb (by omega)) 1 rfl (lw_V q626 q628 qs7 q125 q629) (by decide +kernel) ⟨Nat.le_of_ble_eq_true rfl, Nat.le_of_ble_eq_true rfl⟩ ⟨by omega, by omega⟩ [0, 1, 2, 3, 4, 5, 6, 7, 8, 9, 10, 11, 12, 13, 14, 15, 16, 17, 18, 19, 20, 21, 22, 23, 24, 25] 26 ⟨rfl, rfl, rfl, ⟨Or.inl rfl, Or.inr rfl, Or.inr rfl, Or.inl rfl, Or.inl rfl, Or.inl rfl, Or.inl rfl, Or.inl rfl, Or.inl rfl, Or.inl rfl, Or.inl rfl, Or.inl rfl, Or.inl rfl, Or.inl rfl, Or.inl rfl, Or.inl rfl, Or.inl rfl, Or.inl rfl, Or.inl rfl, Or.inl rfl, Or.inl rfl, Or.inl rfl, Or.inr rfl, Or.inr rfl, Or.inr rfl, Or.inr rfl, trivial⟩⟩ (fun h => nomatch h) (Nat.le_of_ble_eq_true rfl) ⟨⟨Or.inr trivial, Or.inl rfl, Or.inl rfl, Or.inr trivial, Or.inr trivial, Or.inr trivial, Or.inr trivial, Or.inr trivial, Or.inr trivial, Or.inr trivial, Or.inr trivial, Or.inr trivial, Or.inr trivial, Or.inr trivial, Or.inr trivial, Or.inr trivial, Or.inr trivial, Or.inr trivial, Or.inr trivial, Or.inr trivial, Or.inr trivial, Or.inr trivial, Or.inl rfl, Or.inl rfl, Or.inl rfl, Or.inl rfl, trivial⟩, rfl, rfl, rfl, Nat.le_of_ble_eq_true rfl⟩ rfl zC7 rfl rfl dX7_clause_10 (fun r_10 w_10 hp => ?_) (fun _ _ h => h.elim)
  obtain ⟨rfl, rfl⟩ := hp
  rw [hw (show 1 < 7 by omega)]
  refine z_weq (w' := [zH, zO _ [zr _ _, zr _ _, zr _ _, zr _ _, zr _ _, zi _, zi _, zr _ _, zr _ _], zAi 3 400 _, zH, zH, zH, zH, zH, zH, zH, zH, zH, zH, zH, zH, zH, zH, zH, zH, zH, zH, zH, zO _ [zi _, zr _ _, zi _, zi _, zi _, zi _, zi _, zi _, zr _ _, zi _, zr _ _], zAi 0 12 _, zO _ [zi _, zi _, zr _ _], zAi 0 24 _]) rfl ?_
  refine z_seq (S' := zi _ :: _) rfl ?_
  refine z_istore_n F dX7_clause_13 (Nat.le_of_ble_eq_true rfl) ?_
  refine z_leq (L' := [_, _, _, _, _, _, _, _]) rfl ?_
  refine z_aload_n F dX7_clause_14 rfl ?_
  refine z_ldcS F (F.con.2.2.2.2.2.2.2.2.2.1 (ksI 2) (ksI_lt (by decide))) dX7_clause_15 ?_
  refine z_callVD F (c_isB _ t fp T n d f g z b u m0 c 2 tb hz hT hb (by omega)) 1 rfl (lw_V q626 q628 qs7 q125 q629) (by decide +kernel) ⟨Nat.le_of_ble_eq_true rfl, Nat.le_of_ble_eq_true rfl⟩ ⟨by omega, by omega⟩ [0, 1, 2, 3, 4, 5, 6, 7, 8, 9, 10, 11, 12, 13, 14, 15, 16, 17, 18, 19, 20, 21, 22, 23, 24, 25] 26 ⟨rfl, rfl, rfl, ⟨Or.inl rfl, Or.inr rfl, Or.inr rfl, Or.inl rfl, Or.inl rfl, Or.inl rfl, Or.inl rfl, Or.inl rfl, Or.inl rfl, Or.inl rfl, Or.inl rfl, Or.inl rfl, Or.inl rfl, Or.inl rfl, Or.inl rfl, Or.inl rfl, Or.inl rfl, Or.inl rfl, Or.inl rfl, Or.inl rfl, Or.inl rfl, Or.inl rfl, Or.inr rfl, Or.inr rfl, Or.inr rfl, Or.inr rfl, trivial⟩⟩ (fun h => nomatch h) (Nat.le_of_ble_eq_true rfl) ⟨⟨Or.inr trivial, Or.inl rfl, Or.inl rfl, Or.inr trivial, Or.inr trivial, Or.inr trivial, Or.inr trivial, Or.inr trivial, Or.inr trivial, Or.inr trivial, Or.inr trivial, Or.inr trivial, Or.inr trivial, Or.inr trivial, Or.inr trivial, Or.inr trivial, Or.inr trivial, Or.inr trivial, Or.inr trivial, Or.inr trivial, Or.inr trivial, Or.inr trivial, Or.inl rfl, Or.inl rfl, Or.inl rfl, Or.inl rfl, trivial⟩, rfl, rfl, rfl, Nat.le_of_ble_eq_true rfl⟩ rfl zC7 rfl rfl dX7_clause_17 (fun r_17 w_17 hp => ?_) (fun _ _ h => h.elim)
  obtain ⟨rfl, rfl⟩ := hp
  rw [hw (show 2 < 7 by omega)]
  refine z_weq (w' := [zH, zO _ [zr _ _, zr _ _, zr _ _, zr _ _, zr _ _, zi _, zi _, zr _ _, zr _ _], zAi 3 400 _, zH, zH, zH, zH, zH, zH, zH, zH, zH, zH, zH, zH, zH, zH, zH, zH, zH, zH, zH, zO _ [zi _, zr _ _, zi _, zi _, zi _, zi _, zi _, zi _, zr _ _, zi _, zr _ _], zAi 0 12 _, zO _ [zi _, zi _, zr _ _], zAi 0 24 _]) rfl ?_
  refine z_seq (S' := zi _ :: _) rfl ?_
  refine z_istore_n F dX7_clause_20 (Nat.le_of_ble_eq_true rfl) ?_
  refine z_leq (L' := [_, _, _, _, _, _, _, _]) rfl ?_
  refine z_aload_n F dX7_clause_21 rfl ?_
  refine z_ldcS F (F.con.2.2.2.2.2.2.2.2.2.1 (ksI 3) (ksI_lt (by decide))) dX7_clause_22 ?_
  refine z_callVD F (c_isB _ t fp T n d f g z b u m0 c 3 tb hz hT hb (by omega)) 1 rfl (lw_V q626 q628 qs7 q125 q629) (by decide +kernel) ⟨Nat.le_of_ble_eq_true rfl, Nat.le_of_ble_eq_true rfl⟩ ⟨by omega, by omega⟩ [0, 1, 2, 3, 4, 5, 6, 7, 8, 9, 10, 11, 12, 13, 14, 15, 16, 17, 18, 19, 20, 21, 22, 23, 24, 25] 26 ⟨rfl, rfl, rfl, ⟨Or.inl rfl, Or.inr rfl, Or.inr rfl, Or.inl rfl, Or.inl rfl, Or.inl rfl, Or.inl rfl, Or.inl rfl, Or.inl rfl, Or.inl rfl, Or.inl rfl, Or.inl rfl, Or.inl rfl, Or.inl rfl, Or.inl rfl, Or.inl rfl, Or.inl rfl, Or.inl rfl, Or.inl rfl, Or.inl rfl, Or.inl rfl, Or.inl rfl, Or.inr rfl, Or.inr rfl, Or.inr rfl, Or.inr rfl, trivial⟩⟩ (fun h => nomatch h) (Nat.le_of_ble_eq_true rfl) ⟨⟨Or.inr trivial, Or.inl rfl, Or.inl rfl, Or.inr trivial, Or.inr trivial, Or.inr trivial, Or.inr trivial, Or.inr trivial, Or.inr trivial, Or.inr trivial, Or.inr trivial, Or.inr trivial, Or.inr trivial, Or.inr trivial, Or.inr trivial, Or.inr trivial, Or.inr trivial, Or.inr trivial, Or.inr trivial, Or.inr trivial, Or.inr trivial, Or.inr trivial, Or.inl rfl, Or.inl rfl, Or.inl rfl, Or.inl rfl, trivial⟩, rfl, rfl, rfl, Nat.le_of_ble_eq_true rfl⟩ rfl zC7 rfl rfl dX7_clause_24 (fun r_24 w_24 hp => ?_) (fun _ _ h => h.elim)
  obtain ⟨rfl, rfl⟩ := hp
  rw [hw (show 3 < 7 by omega)]
  refine z_weq (w' := [zH, zO _ [zr _ _, zr _ _, zr _ _, zr _ _, zr _ _, zi _, zi _, zr _ _, zr _ _], zAi 3 400 _, zH, zH, zH, zH, zH, zH, zH, zH, zH, zH, zH, zH, zH, zH, zH, zH, zH, zH, zH, zO _ [zi _, zr _ _, zi _, zi _, zi _, zi _, zi _, zi _, zr _ _, zi _, zr _ _], zAi 0 12 _, zO _ [zi _, zi _, zr _ _], zAi 0 24 _]) rfl ?_
  refine z_seq (S' := zi _ :: _) rfl ?_
  refine z_istore F dX7_clause_27 (Nat.le_of_ble_eq_true rfl) ?_
  refine z_leq (L' := [_, _, _, _, _, _, _, _]) rfl ?_
  refine z_aload_n F dX7_clause_29 rfl ?_
  refine z_ldcS F (F.con.2.2.2.2.2.2.2.2.2.1 (ksI 4) (ksI_lt (by decide))) dX7_clause_30 ?_
  refine z_callVD F (c_isB _ t fp T n d f g z b u m0 c 4 tb hz hT hb (by omega)) 1 rfl (lw_V q626 q628 qs7 q125 q629) (by decide +kernel) ⟨Nat.le_of_ble_eq_true rfl, Nat.le_of_ble_eq_true rfl⟩ ⟨by omega, by omega⟩ [0, 1, 2, 3, 4, 5, 6, 7, 8, 9, 10, 11, 12, 13, 14, 15, 16, 17, 18, 19, 20, 21, 22, 23, 24, 25] 26 ⟨rfl, rfl, rfl, ⟨Or.inl rfl, Or.inr rfl, Or.inr rfl, Or.inl rfl, Or.inl rfl, Or.inl rfl, Or.inl rfl, Or.inl rfl, Or.inl rfl, Or.inl rfl, Or.inl rfl, Or.inl rfl, Or.inl rfl, Or.inl rfl, Or.inl rfl, Or.inl rfl, Or.inl rfl, Or.inl rfl, Or.inl rfl, Or.inl rfl, Or.inl rfl, Or.inl rfl, Or.inr rfl, Or.inr rfl, Or.inr rfl, Or.inr rfl, trivial⟩⟩ (fun h => nomatch h) (Nat.le_of_ble_eq_true rfl) ⟨⟨Or.inr trivial, Or.inl rfl, Or.inl rfl, Or.inr trivial, Or.inr trivial, Or.inr trivial, Or.inr trivial, Or.inr trivial, Or.inr trivial, Or.inr trivial, Or.inr trivial, Or.inr trivial, Or.inr trivial, Or.inr trivial, Or.inr trivial, Or.inr trivial, Or.inr trivial, Or.inr trivial, Or.inr trivial, Or.inr trivial, Or.inr trivial, Or.inr trivial, Or.inl rfl, Or.inl rfl, Or.inl rfl, Or.inl rfl, trivial⟩, rfl, rfl, rfl, Nat.le_of_ble_eq_true rfl⟩ rfl zC7 rfl rfl dX7_clause_32 (fun r_32 w_32 hp => ?_) (fun _ _ h => h.elim)
  obtain ⟨rfl, rfl⟩ := hp
  rw [hw (show 4 < 7 by omega)]
  refine z_weq (w' := [zH, zO _ [zr _ _, zr _ _, zr _ _, zr _ _, zr _ _, zi _, zi _, zr _ _, zr _ _], zAi 3 400 _, zH, zH, zH, zH, zH, zH, zH, zH, zH, zH, zH, zH, zH, zH, zH, zH, zH, zH, zH, zO _ [zi _, zr _ _, zi _, zi _, zi _, zi _, zi _, zi _, zr _ _, zi _, zr _ _], zAi 0 12 _, zO _ [zi _, zi _, zr _ _], zAi 0 24 _]) rfl ?_
  refine z_seq (S' := zi _ :: _) rfl ?_
  refine z_istore F dX7_clause_35 (Nat.le_of_ble_eq_true rfl) ?_
  refine z_leq (L' := [_, _, _, _, _, _, _, _]) rfl ?_
  refine z_aload_n F dX7_clause_37 rfl ?_
  refine z_iload_n F dX7_clause_38 rfl ?_
  refine z_if_neB F (tgt := 60) dX7_clause_39 (by decide) (fun c_39 => ?_) (fun c_39 => ?_)
  · exact at60
  · refine z_iload_n F dX7_clause_42 rfl ?_
    refine z_if_neB F (tgt := 60) dX7_clause_43 (by decide) (fun c_43 => ?_) (fun c_43 => ?_)
    · exact at60
    · refine z_iload_n F dX7_clause_46 rfl ?_
      refine z_if_neB F (tgt := 60) dX7_clause_47 (by decide) (fun c_47 => ?_) (fun c_47 => ?_)
      · exact at60
      · refine z_iload F dX7_clause_50 rfl ?_
        refine z_if_neB F (tgt := 60) dX7_clause_52 (by decide) (fun c_52 => ?_) (fun c_52 => ?_)
        · exact at60
        · refine z_iload F dX7_clause_55 rfl ?_
          refine z_if_eqB F (tgt := 64) dX7_clause_57 (by decide) (fun c_57 => ?_) (fun c_57 => ?_)
          · exact absurd (of_decide_eq_false c_57) (by have h1 := of_decide_eq_false c_39; have h2 := of_decide_eq_false c_43; have h3 := of_decide_eq_false c_47; have h4 := of_decide_eq_false c_52; omega)
          · exact at60
end CA4
