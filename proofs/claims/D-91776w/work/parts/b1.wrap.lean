/-! the law's wrappers (genb1.py) -/
section CB1
def cvV (v : zV) : Int64 := match v with
  | .inl (.int x) => x.toInt64
  | .inl (.long x) => x
  | _ => 0
theorem cvB (b : Bool) : cvV (zi (bI b)) = if b = true then 1 else 0 := by cases b <;> rfl
theorem lw_nse : zHok "WiredNetsLaw" 13 "java/util/NoSuchElementException" eNSE = true := by decide +kernel
theorem lw_iae : zHok "WiredNetsLaw" 22 "java/lang/IllegalArgumentException" eIAE = true := by decide +kernel
theorem zx_catch2 {X : zX} {cc : ByteArray} {own : String} {ret : Option FieldType} {nL d mc ms nw : Nat} {np : Bool} {L : List (Option zV)} {w : List zE} {k n pc : Nat} (F : zFix X cc own ret nL d mc ms nw np) {pe : Nat} {hh : List (Nat × Nat × Nat × Nat)} (hT : X.1.2.2.2.2.2.2.2.2.2.exceptionTable.toList = tableOf hh) (x1 x2 : ExceptionTableEntry) (hsplit : tableOf hh = [x1] ++ x2 :: []) (hx : covers x2 pc = true) (h1 : x1.catchType ≠ 0) (h2 : x2.catchType ≠ 0) (ok1 : zHok own x1.catchType eNSE eNSE = true) (ok2 : zHok own x2.catchType eIAE eIAE = true) (kk : Z X L [zr pe 0] w k n x2.handlerPc) : ZX X L w k n pc eIAE pe := fun ad H locs ls st ce g0 g1 g2 g3 g4 g5 g6 g7 => by
  unfold zHok at ok1 ok2
  rw [List.all_eq_true] at ok1 ok2
  have hw1 : ∀ w ∈ [Cond.classLink own x1.catchType eNSE, Cond.castable eNSE eNSE], w.before X.1.2.2.2.2.2.2.1 X.1.2.2.2.2.1 = true := fun w h => by
    have := ok1 w h
    rw [Bool.and_eq_true, decide_eq_true_eq] at this
    exact z_word F this.1 this.2
  have hw2 : ∀ w ∈ [Cond.classLink own x2.catchType eIAE, Cond.castable eIAE eIAE], w.before X.1.2.2.2.2.2.2.1 X.1.2.2.2.2.1 = true := fun w h => by
    have := ok2 w h
    rw [Bool.and_eq_true, decide_eq_true_eq] at this
    exact z_word F this.1 this.2
  exact vx_catch F.2.2.1 [x1] x2 [] (hT.trans hsplit) (fun z hz => by
    rcases List.mem_cons.mp hz with rfl | q
    · exact Or.inr ⟨h1, eNSE, hw1 _ List.mem_cons_self, F.con.2.2.2.2.2.2.2.2.2.2.2⟩
    · cases q) hx h2 (hw2 _ List.mem_cons_self) (hw2 _ (List.mem_cons_of_mem _ List.mem_cons_self)) g5 g6 g7 (kk ad H locs ls g0 g1 g2 g3 g4)
theorem cw_pline (Dg : va_G) (P : zPt) (t : Nat) (fp : Int32) (j n d : Nat) (f : Nat → Int32) (a b : Int32) (hj : j < 8) (h1 : 1 ≤ n) (h24 : n ≤ 24) (hd : d < 9) (hP : P j = some (nI n, nI d, f)) (o_ : Nat → Int64) : zCtrWD Dg yX0_line cX0_line 6 (some .int) [(0, 19, 22, 13)] 9 3 18 [zr 1 0, zi (nI j), zi a, zi b, zr 22 0] ((xH P t fp) ++ [zAl 1 1 o_]) (fun r_ w_ => (∃ v_ w1_, (fun r w => ∃ a' b', a' < n ∧ b' < n ∧ a = nI a' ∧ b = nI b' ∧ r = some (zi (bI (mayJ f d a' b'))) ∧ w = xH (if mayJ f d a' b' then zput P j (some (nI n, nI d, jn f a' b')) else P) t fp) (some v_) w1_ ∧ r_ = some (zi (nI 0)) ∧ w_ = w1_ ++ [zAl 1 1 (vp_updL o_ 0 (cvV v_))]) ∨ (∃ E_ w1_, (fun E w => E = eNSE ∧ (knB n a && knB n b) = false ∧ w = xH P t fp) E_ w1_ ∧ r_ = some (zi (nI 1)) ∧ w_ = w1_ ++ [zAl 1 1 o_])) zNx := by
  refine z_startWD (by decide) [some (zr 1 0), some (zi (nI j)), some (zi a), some (zi b), some (zr 22 0), none] rfl (fun _ => Nat.le_of_ble_eq_true rfl) (fun _ => rfl) (fun X hD F E hT hin => ?_)
  subst hD
  have K0 : ∀ a' b', (a' < n) → (b' < n) → (a = nI a') → (b = nI b') → Z X [some (zr 1 0), some (zi (nI j)), some (zi a), some (zi b), some (zr 22 0), none] [zi (bI (mayJ f d a' b')), zi (nI 0), zr 22 0] (xH (if mayJ f d a' b' then zput P j (some (nI n, nI d, jn f a' b')) else P) t fp ++ [zAl 1 1 o_]) 3 18 10 := by
    intro a' b' h_1 h_2 h_3 h_4
    refine z_if_eqB F (tgt := 17) dX0_line_10 (by decide) (fun c_10 => ?_) (fun c_10 => ?_)
    · refine z_lconst F 0 dX0_line_17 rfl ?_
      refine z_lastN F rfl (Nat.le_of_ble_eq_true rfl) (by omega) dX0_line_18 ?_
      refine z_weq (w' := [_, _, _, _, _, _, _, _, _, _, _, _, _, _, _, _, _, _, _, _, _, _, _]) rfl ?_
      refine z_goto F (tgt := 26) dX0_line_19 (by decide) ?_
      refine z_iconst F (nI 0) dX0_line_26 rfl ?_
      exact z_iret F E rfl dX0_line_27 (by omega) (by omega) (Or.inl ⟨_, _, ⟨a', b', h_1, h_2, h_3, h_4, rfl, rfl⟩, rfl, (by first | (rw [cvB, c_10]; rfl) | cases c_10 | rfl)⟩)
    · refine z_lconst F 1 dX0_line_13 rfl ?_
      refine z_goto F (tgt := 18) dX0_line_14 (by decide) ?_
      refine z_lastN F rfl (Nat.le_of_ble_eq_true rfl) (by omega) dX0_line_18 ?_
      refine z_weq (w' := [_, _, _, _, _, _, _, _, _, _, _, _, _, _, _, _, _, _, _, _, _, _, _]) rfl ?_
      refine z_goto F (tgt := 26) dX0_line_19 (by decide) ?_
      refine z_iconst F (nI 0) dX0_line_26 rfl ?_
      exact z_iret F E rfl dX0_line_27 (by omega) (by omega) (Or.inl ⟨_, _, ⟨a', b', h_1, h_2, h_3, h_4, rfl, rfl⟩, rfl, (by first | (rw [cvB, c_10]; rfl) | cases c_10 | rfl)⟩)
  have hH : ∀ (k0 n0 : Nat), k0 ≤ 3 → n0 ≤ 18 → ((knB n a && knB n b) = false) → Z X [some (zr 1 0), some (zi (nI j)), some (zi a), some (zi b), some (zr 22 0), none] [zr 23 0] (xH P t fp ++ [zAl 1 1 o_]) k0 n0 22 := by
    intro k0 n0  hk0 hn0 h_5
    refine z_astore F dX0_line_22 (Nat.le_of_ble_eq_true rfl) ?_
    refine z_leq (L' := [_, _, _, _, _, _]) rfl ?_
    refine z_iconst F (nI 1) dX0_line_24 rfl ?_
    exact z_iret F E rfl dX0_line_25 (by omega) (by omega) (Or.inr ⟨_, _, ⟨rfl, h_5, rfl⟩, rfl, rfl⟩)
  refine z_aload F dX0_line_0 rfl ?_
  refine z_iconst F (nI 0) dX0_line_2 rfl ?_
  refine z_aload_n F dX0_line_3 rfl ?_
  refine z_iload_n F dX0_line_4 rfl ?_
  refine z_iload_n F dX0_line_5 rfl ?_
  refine z_iload_n F dX0_line_6 rfl ?_
  refine z_callV F (c_pline P t fp j n d f a b hj h1 h24 hd hP) 3 rfl (lw_V q425 q426 q427 q109 q428) (by decide +kernel) ⟨Nat.le_of_ble_eq_true rfl, Nat.le_of_ble_eq_true rfl⟩ ⟨by omega, by omega⟩ [0, 1, 2, 3, 4, 5, 6, 7, 8, 9, 10, 11, 12, 13, 14, 15, 16, 17, 18, 19, 20, 21] 23 ⟨rfl, rfl, rfl, ⟨Or.inr (congrArg some (zrnP rfl).symm), Or.inr rfl, Or.inl rfl, Or.inl rfl, Or.inl rfl, Or.inl rfl, Or.inl rfl, Or.inl rfl, Or.inl rfl, Or.inl rfl, Or.inl rfl, Or.inl rfl, Or.inl rfl, Or.inl rfl, Or.inl rfl, Or.inl rfl, Or.inl rfl, Or.inl rfl, Or.inl rfl, Or.inl rfl, Or.inl rfl, Or.inl rfl, trivial⟩⟩ (fun _ => rfl) (Nat.le_of_ble_eq_true rfl) ⟨⟨Or.inl rfl, Or.inl rfl, Or.inr trivial, Or.inr trivial, Or.inr trivial, Or.inr trivial, Or.inr trivial, Or.inr trivial, Or.inr trivial, Or.inr trivial, Or.inr trivial, Or.inr trivial, Or.inr trivial, Or.inr trivial, Or.inr trivial, Or.inr trivial, Or.inr trivial, Or.inr trivial, Or.inr trivial, Or.inr trivial, Or.inr trivial, Or.inr trivial, Or.inr trivial, trivial⟩, rfl, rfl, rfl, Nat.le_of_ble_eq_true rfl⟩ rfl zC1 rfl rfl dX0_line_7 (fun r_7 w_7 hp => ?_) (fun E_ w_ hx => by obtain ⟨rfl, h_5, rfl⟩ := hx; exact zx_catch F hT [] ⟨0, 19, 22, 13⟩ [] rfl (fun _ h => nomatch h) (by decide) (by decide) lw_nse (z_weq (w' := zPl (pR _) _ :: _) (congrArg (fun z => z :: _) (zrnP rfl)) (hH _ _  (by omega) (by omega) h_5)))
  rcases hp with ⟨a', b', h_1, h_2, h_3, h_4, rfl, rfl⟩
  · refine z_weq (w' := zPl (pR _) _ :: _) (congrArg (fun z => z :: _) (zrnP rfl)) ?_; exact K0 a' b' h_1 h_2 h_3 h_4
theorem cw_pline_no (Dg : va_G) (P : zPt) (t : Nat) (fp : Int32) (s a b : Int32) (hs : ∀ j, j < 8 → s = nI j → P j = none) (o_ : Nat → Int64) : zCtrWD Dg yX0_line cX0_line 6 (some .int) [(0, 19, 22, 13)] 9 3 18 [zr 1 0, zi s, zi a, zi b, zr 22 0] ((xH P t fp) ++ [zAl 1 1 o_]) (fun r_ w_ => (∃ v_ w1_, (fun r w => False) (some v_) w1_ ∧ r_ = some (zi (nI 0)) ∧ w_ = w1_ ++ [zAl 1 1 (vp_updL o_ 0 (cvV v_))]) ∨ (∃ E_ w1_, (fun E w => E = eNSE ∧ True ∧ w = xH P t fp) E_ w1_ ∧ r_ = some (zi (nI 1)) ∧ w_ = w1_ ++ [zAl 1 1 o_])) zNx := by
  refine z_startWD (by decide) [some (zr 1 0), some (zi s), some (zi a), some (zi b), some (zr 22 0), none] rfl (fun _ => Nat.le_of_ble_eq_true rfl) (fun _ => rfl) (fun X hD F E hT hin => ?_)
  subst hD
  have hH : ∀ (k0 n0 : Nat), k0 ≤ 3 → n0 ≤ 18 → (True) → Z X [some (zr 1 0), some (zi s), some (zi a), some (zi b), some (zr 22 0), none] [zr 23 0] (xH P t fp ++ [zAl 1 1 o_]) k0 n0 22 := by
    intro k0 n0  hk0 hn0 h_2
    refine z_astore F dX0_line_22 (Nat.le_of_ble_eq_true rfl) ?_
    refine z_leq (L' := [_, _, _, _, _, _]) rfl ?_
    refine z_iconst F (nI 1) dX0_line_24 rfl ?_
    exact z_iret F E rfl dX0_line_25 (by omega) (by omega) (Or.inr ⟨_, _, ⟨rfl, h_2, rfl⟩, rfl, rfl⟩)
  refine z_aload F dX0_line_0 rfl ?_
  refine z_iconst F (nI 0) dX0_line_2 rfl ?_
  refine z_aload_n F dX0_line_3 rfl ?_
  refine z_iload_n F dX0_line_4 rfl ?_
  refine z_iload_n F dX0_line_5 rfl ?_
  refine z_iload_n F dX0_line_6 rfl ?_
  refine z_callV F (c_pline_no P t fp s a b hs) 3 rfl (lw_V q425 q426 q427 q109 q428) (by decide +kernel) ⟨Nat.le_of_ble_eq_true rfl, Nat.le_of_ble_eq_true rfl⟩ ⟨by omega, by omega⟩ [0, 1, 2, 3, 4, 5, 6, 7, 8, 9, 10, 11, 12, 13, 14, 15, 16, 17, 18, 19, 20, 21] 23 ⟨rfl, rfl, rfl, ⟨Or.inr (congrArg some (zrnP rfl).symm), Or.inr rfl, Or.inl rfl, Or.inl rfl, Or.inl rfl, Or.inl rfl, Or.inl rfl, Or.inl rfl, Or.inl rfl, Or.inl rfl, Or.inl rfl, Or.inl rfl, Or.inl rfl, Or.inl rfl, Or.inl rfl, Or.inl rfl, Or.inl rfl, Or.inl rfl, Or.inl rfl, Or.inl rfl, Or.inl rfl, Or.inl rfl, trivial⟩⟩ (fun _ => rfl) (Nat.le_of_ble_eq_true rfl) ⟨⟨Or.inl rfl, Or.inl rfl, Or.inr trivial, Or.inr trivial, Or.inr trivial, Or.inr trivial, Or.inr trivial, Or.inr trivial, Or.inr trivial, Or.inr trivial, Or.inr trivial, Or.inr trivial, Or.inr trivial, Or.inr trivial, Or.inr trivial, Or.inr trivial, Or.inr trivial, Or.inr trivial, Or.inr trivial, Or.inr trivial, Or.inr trivial, Or.inr trivial, Or.inr trivial, trivial⟩, rfl, rfl, rfl, Nat.le_of_ble_eq_true rfl⟩ rfl zC1 rfl rfl dX0_line_7 (fun r_7 w_7 hp => ?_) (fun E_ w_ hx => by obtain ⟨rfl, h_2, rfl⟩ := hx; exact zx_catch F hT [] ⟨0, 19, 22, 13⟩ [] rfl (fun _ h => nomatch h) (by decide) (by decide) lw_nse (z_weq (w' := zPl (pR _) _ :: _) (congrArg (fun z => z :: _) (zrnP rfl)) (hH _ _  (by omega) (by omega) h_2)))
  exact hp.elim
theorem cw_poff (Dg : va_G) (P : zPt) (t : Nat) (fp : Int32) (j n d : Nat) (f : Nat → Int32) (a b : Int32) (hj : j < 8) (h1 : 1 ≤ n) (h24 : n ≤ 24) (hP : P j = some (nI n, nI d, f)) (o_ : Nat → Int64) : zCtrWD Dg yX0_off cX0_off 6 (some .int) [(0, 19, 22, 13)] 9 3 18 [zr 1 0, zi (nI j), zi a, zi b, zr 22 0] ((xH P t fp) ++ [zAl 1 1 o_]) (fun r_ w_ => (∃ v_ w1_, (fun r w => ∃ a' b', a' < n ∧ b' < n ∧ a = nI a' ∧ b = nI b' ∧ r = some (zi (bI (bt (f a') b'))) ∧ w = xH (if bt (f a') b' then zput P j (some (nI n, nI d, pt f a' b')) else P) t fp) (some v_) w1_ ∧ r_ = some (zi (nI 0)) ∧ w_ = w1_ ++ [zAl 1 1 (vp_updL o_ 0 (cvV v_))]) ∨ (∃ E_ w1_, (fun E w => E = eNSE ∧ (knB n a && knB n b) = false ∧ w = xH P t fp) E_ w1_ ∧ r_ = some (zi (nI 1)) ∧ w_ = w1_ ++ [zAl 1 1 o_])) zNx := by
  refine z_startWD (by decide) [some (zr 1 0), some (zi (nI j)), some (zi a), some (zi b), some (zr 22 0), none] rfl (fun _ => Nat.le_of_ble_eq_true rfl) (fun _ => rfl) (fun X hD F E hT hin => ?_)
  subst hD
  have K0 : ∀ a' b', (a' < n) → (b' < n) → (a = nI a') → (b = nI b') → Z X [some (zr 1 0), some (zi (nI j)), some (zi a), some (zi b), some (zr 22 0), none] [zi (bI (bt (f a') b')), zi (nI 0), zr 22 0] (xH (if bt (f a') b' then zput P j (some (nI n, nI d, pt f a' b')) else P) t fp ++ [zAl 1 1 o_]) 3 18 10 := by
    intro a' b' h_1 h_2 h_3 h_4
    refine z_if_eqB F (tgt := 17) dX0_off_10 (by decide) (fun c_10 => ?_) (fun c_10 => ?_)
    · refine z_lconst F 0 dX0_off_17 rfl ?_
      refine z_lastN F rfl (Nat.le_of_ble_eq_true rfl) (by omega) dX0_off_18 ?_
      refine z_weq (w' := [_, _, _, _, _, _, _, _, _, _, _, _, _, _, _, _, _, _, _, _, _, _, _]) rfl ?_
      refine z_goto F (tgt := 26) dX0_off_19 (by decide) ?_
      refine z_iconst F (nI 0) dX0_off_26 rfl ?_
      exact z_iret F E rfl dX0_off_27 (by omega) (by omega) (Or.inl ⟨_, _, ⟨a', b', h_1, h_2, h_3, h_4, rfl, rfl⟩, rfl, (by first | (rw [cvB, c_10]; rfl) | cases c_10 | rfl)⟩)
    · refine z_lconst F 1 dX0_off_13 rfl ?_
      refine z_goto F (tgt := 18) dX0_off_14 (by decide) ?_
      refine z_lastN F rfl (Nat.le_of_ble_eq_true rfl) (by omega) dX0_off_18 ?_
      refine z_weq (w' := [_, _, _, _, _, _, _, _, _, _, _, _, _, _, _, _, _, _, _, _, _, _, _]) rfl ?_
      refine z_goto F (tgt := 26) dX0_off_19 (by decide) ?_
      refine z_iconst F (nI 0) dX0_off_26 rfl ?_
      exact z_iret F E rfl dX0_off_27 (by omega) (by omega) (Or.inl ⟨_, _, ⟨a', b', h_1, h_2, h_3, h_4, rfl, rfl⟩, rfl, (by first | (rw [cvB, c_10]; rfl) | cases c_10 | rfl)⟩)
  have hH : ∀ (k0 n0 : Nat), k0 ≤ 3 → n0 ≤ 18 → ((knB n a && knB n b) = false) → Z X [some (zr 1 0), some (zi (nI j)), some (zi a), some (zi b), some (zr 22 0), none] [zr 23 0] (xH P t fp ++ [zAl 1 1 o_]) k0 n0 22 := by
    intro k0 n0  hk0 hn0 h_5
    refine z_astore F dX0_off_22 (Nat.le_of_ble_eq_true rfl) ?_
    refine z_leq (L' := [_, _, _, _, _, _]) rfl ?_
    refine z_iconst F (nI 1) dX0_off_24 rfl ?_
    exact z_iret F E rfl dX0_off_25 (by omega) (by omega) (Or.inr ⟨_, _, ⟨rfl, h_5, rfl⟩, rfl, rfl⟩)
  refine z_aload F dX0_off_0 rfl ?_
  refine z_iconst F (nI 0) dX0_off_2 rfl ?_
  refine z_aload_n F dX0_off_3 rfl ?_
  refine z_iload_n F dX0_off_4 rfl ?_
  refine z_iload_n F dX0_off_5 rfl ?_
  refine z_iload_n F dX0_off_6 rfl ?_
  refine z_callV F (c_poff P t fp j n d f a b hj h1 h24 hP) 3 rfl (lw_V q520 q521 q522 q109 q523) (by decide +kernel) ⟨Nat.le_of_ble_eq_true rfl, Nat.le_of_ble_eq_true rfl⟩ ⟨by omega, by omega⟩ [0, 1, 2, 3, 4, 5, 6, 7, 8, 9, 10, 11, 12, 13, 14, 15, 16, 17, 18, 19, 20, 21] 23 ⟨rfl, rfl, rfl, ⟨Or.inr (congrArg some (zrnP rfl).symm), Or.inr rfl, Or.inl rfl, Or.inl rfl, Or.inl rfl, Or.inl rfl, Or.inl rfl, Or.inl rfl, Or.inl rfl, Or.inl rfl, Or.inl rfl, Or.inl rfl, Or.inl rfl, Or.inl rfl, Or.inl rfl, Or.inl rfl, Or.inl rfl, Or.inl rfl, Or.inl rfl, Or.inl rfl, Or.inl rfl, Or.inl rfl, trivial⟩⟩ (fun _ => rfl) (Nat.le_of_ble_eq_true rfl) ⟨⟨Or.inl rfl, Or.inl rfl, Or.inr trivial, Or.inr trivial, Or.inr trivial, Or.inr trivial, Or.inr trivial, Or.inr trivial, Or.inr trivial, Or.inr trivial, Or.inr trivial, Or.inr trivial, Or.inr trivial, Or.inr trivial, Or.inr trivial, Or.inr trivial, Or.inr trivial, Or.inr trivial, Or.inr trivial, Or.inr trivial, Or.inr trivial, Or.inr trivial, Or.inr trivial, trivial⟩, rfl, rfl, rfl, Nat.le_of_ble_eq_true rfl⟩ rfl zC1 rfl rfl dX0_off_7 (fun r_7 w_7 hp => ?_) (fun E_ w_ hx => by obtain ⟨rfl, h_5, rfl⟩ := hx; exact zx_catch F hT [] ⟨0, 19, 22, 13⟩ [] rfl (fun _ h => nomatch h) (by decide) (by decide) lw_nse (z_weq (w' := zPl (pR _) _ :: _) (congrArg (fun z => z :: _) (zrnP rfl)) (hH _ _  (by omega) (by omega) h_5)))
  rcases hp with ⟨a', b', h_1, h_2, h_3, h_4, rfl, rfl⟩
  · refine z_weq (w' := zPl (pR _) _ :: _) (congrArg (fun z => z :: _) (zrnP rfl)) ?_; exact K0 a' b' h_1 h_2 h_3 h_4
theorem cw_pcopy (Dg : va_G) (P : zPt) (t : Nat) (fp : Int32) (j n d : Nat) (f : Nat → Int32) (s : Int32) (hj : j < 8) (h24 : n ≤ 24) (hz : ∀ k, n ≤ k → k < 24 → f k = nI 0) (hP : P j = some (nI n, nI d, f)) (o_ : Nat → Int64) : zCtrWD Dg yX0_copy cX0_copy 5 (some .int) [(0, 17, 20, 13)] 9 3 33 [zr 1 0, zi (nI j), zi s, zr 22 0] ((xH P t fp) ++ [zAl 1 1 o_]) (fun r_ w_ => (∃ v_ w1_, (fun r w => r = some (zi (bI (slB s))) ∧ ((slB s = false ∧ w = xH P t fp) ∨ ∃ i g, i < 8 ∧ s = nI i ∧ (∀ k, k < 24 → g k = f k) ∧ w = xH (zput P i (some (nI n, nI d, g))) t fp)) (some v_) w1_ ∧ r_ = some (zi (nI 0)) ∧ w_ = w1_ ++ [zAl 1 1 (vp_updL o_ 0 (cvV v_))])) zNx := by
  refine z_startWD (by decide) [some (zr 1 0), some (zi (nI j)), some (zi s), some (zr 22 0), none] rfl (fun _ => Nat.le_of_ble_eq_true rfl) (fun _ => rfl) (fun X hD F E hT hin => ?_)
  subst hD
  have K0 : ∀ (_ : True), (slB s = false) → Z X [some (zr 1 0), some (zi (nI j)), some (zi s), some (zr 22 0), none] [zi (bI (slB s)), zi (nI 0), zr 22 0] (xH P t fp ++ [zAl 1 1 o_]) 3 33 8 := by
    intro _ h_1
    refine z_if_eqB F (tgt := 15) dX0_copy_8 (by decide) (fun c_8 => ?_) (fun c_8 => ?_)
    · refine z_lconst F 0 dX0_copy_15 rfl ?_
      refine z_lastN F rfl (Nat.le_of_ble_eq_true rfl) (by omega) dX0_copy_16 ?_
      refine z_weq (w' := [_, _, _, _, _, _, _, _, _, _, _, _, _, _, _, _, _, _, _, _, _, _, _]) rfl ?_
      refine z_goto F (tgt := 24) dX0_copy_17 (by decide) ?_
      refine z_iconst F (nI 0) dX0_copy_24 rfl ?_
      exact z_iret F E rfl dX0_copy_25 (by omega) (by omega) (⟨_, _, ⟨rfl, Or.inl ⟨h_1, rfl⟩⟩, rfl, (by first | (rw [cvB, c_8]; rfl) | cases c_8 | rfl)⟩)
    · refine z_lconst F 1 dX0_copy_11 rfl ?_
      refine z_goto F (tgt := 16) dX0_copy_12 (by decide) ?_
      refine z_lastN F rfl (Nat.le_of_ble_eq_true rfl) (by omega) dX0_copy_16 ?_
      refine z_weq (w' := [_, _, _, _, _, _, _, _, _, _, _, _, _, _, _, _, _, _, _, _, _, _, _]) rfl ?_
      refine z_goto F (tgt := 24) dX0_copy_17 (by decide) ?_
      refine z_iconst F (nI 0) dX0_copy_24 rfl ?_
      exact z_iret F E rfl dX0_copy_25 (by omega) (by omega) (⟨_, _, ⟨rfl, Or.inl ⟨h_1, rfl⟩⟩, rfl, (by first | (rw [cvB, c_8]; rfl) | cases c_8 | rfl)⟩)
  have K1 : ∀ i g, (i < 8) → (s = nI i) → (∀ k, k < 24 → g k = f k) → Z X [some (zr 1 0), some (zi (nI j)), some (zi s), some (zr 22 0), none] [zi (bI (slB s)), zi (nI 0), zr 22 0] (xH (zput P i (some (nI n, nI d, g))) t fp ++ [zAl 1 1 o_]) 3 33 8 := by
    intro i g h_2 h_3 h_4
    refine z_if_eqB F (tgt := 15) dX0_copy_8 (by decide) (fun c_8 => ?_) (fun c_8 => ?_)
    · refine z_lconst F 0 dX0_copy_15 rfl ?_
      refine z_lastN F rfl (Nat.le_of_ble_eq_true rfl) (by omega) dX0_copy_16 ?_
      refine z_weq (w' := [_, _, _, _, _, _, _, _, _, _, _, _, _, _, _, _, _, _, _, _, _, _, _]) rfl ?_
      refine z_goto F (tgt := 24) dX0_copy_17 (by decide) ?_
      refine z_iconst F (nI 0) dX0_copy_24 rfl ?_
      exact z_iret F E rfl dX0_copy_25 (by omega) (by omega) (⟨_, _, ⟨rfl, Or.inr ⟨i, g, h_2, h_3, h_4, rfl⟩⟩, rfl, (by first | (rw [cvB, c_8]; rfl) | cases c_8 | rfl)⟩)
    · refine z_lconst F 1 dX0_copy_11 rfl ?_
      refine z_goto F (tgt := 16) dX0_copy_12 (by decide) ?_
      refine z_lastN F rfl (Nat.le_of_ble_eq_true rfl) (by omega) dX0_copy_16 ?_
      refine z_weq (w' := [_, _, _, _, _, _, _, _, _, _, _, _, _, _, _, _, _, _, _, _, _, _, _]) rfl ?_
      refine z_goto F (tgt := 24) dX0_copy_17 (by decide) ?_
      refine z_iconst F (nI 0) dX0_copy_24 rfl ?_
      exact z_iret F E rfl dX0_copy_25 (by omega) (by omega) (⟨_, _, ⟨rfl, Or.inr ⟨i, g, h_2, h_3, h_4, rfl⟩⟩, rfl, (by first | (rw [cvB, c_8]; rfl) | cases c_8 | rfl)⟩)
  refine z_aload_n F dX0_copy_0 rfl ?_
  refine z_iconst F (nI 0) dX0_copy_1 rfl ?_
  refine z_aload_n F dX0_copy_2 rfl ?_
  refine z_iload_n F dX0_copy_3 rfl ?_
  refine z_iload_n F dX0_copy_4 rfl ?_
  refine z_callV F (c_pcopy P t fp j n d f s hj h24 hz hP) 2 rfl (lw_V q748 q749 q750 q109 q751) (by decide +kernel) ⟨Nat.le_of_ble_eq_true rfl, Nat.le_of_ble_eq_true rfl⟩ ⟨by omega, by omega⟩ [0, 1, 2, 3, 4, 5, 6, 7, 8, 9, 10, 11, 12, 13, 14, 15, 16, 17, 18, 19, 20, 21] 23 ⟨rfl, rfl, rfl, ⟨Or.inr (congrArg some (zrnP rfl).symm), Or.inr rfl, Or.inl rfl, Or.inl rfl, Or.inl rfl, Or.inl rfl, Or.inl rfl, Or.inl rfl, Or.inl rfl, Or.inl rfl, Or.inl rfl, Or.inl rfl, Or.inl rfl, Or.inl rfl, Or.inl rfl, Or.inl rfl, Or.inl rfl, Or.inl rfl, Or.inl rfl, Or.inl rfl, Or.inl rfl, Or.inl rfl, trivial⟩⟩ (fun _ => rfl) (Nat.le_of_ble_eq_true rfl) ⟨⟨Or.inl rfl, Or.inl rfl, Or.inr trivial, Or.inr trivial, Or.inr trivial, Or.inr trivial, Or.inr trivial, Or.inr trivial, Or.inr trivial, Or.inr trivial, Or.inr trivial, Or.inr trivial, Or.inr trivial, Or.inr trivial, Or.inr trivial, Or.inr trivial, Or.inr trivial, Or.inr trivial, Or.inr trivial, Or.inr trivial, Or.inr trivial, Or.inr trivial, Or.inr trivial, trivial⟩, rfl, rfl, rfl, Nat.le_of_ble_eq_true rfl⟩ rfl zC1 rfl rfl dX0_copy_5 (fun r_5 w_5 hp => ?_) (fun _ _ h => h.elim)
  rcases hp with ⟨rfl, (⟨h_1, rfl⟩ | ⟨i, g, h_2, h_3, h_4, rfl⟩)⟩
  · refine z_weq (w' := zPl (pR _) _ :: _) (congrArg (fun z => z :: _) (zrnP rfl)) ?_; exact K0 trivial h_1
  · refine z_weq (w' := zPl (pR _) _ :: _) (congrArg (fun z => z :: _) (zrnP rfl)) ?_; exact K1 i g h_2 h_3 h_4
theorem cw_pdist (Dg : va_G) (P : zPt) (t : Nat) (fp sn0 g0 sm0 : Int32) (D : Nat → Int32) (j n d : Nat) (f : Nat → Int32) (a b : Int32) (hj : j < 8) (h1 : 1 ≤ n) (h24 : n ≤ 24) (hP : P j = some (nI n, nI d, f)) (o_ : Nat → Int64) : zCtrWD Dg yX0_distance cX0_distance 6 (some .int) [(0, 12, 15, 13)] 9 3 18 [zr 1 0, zi (nI j), zi a, zi b, zr 22 0] ((xFl P t fp sn0 g0 sm0 D) ++ [zAl 1 1 o_]) (fun r_ w_ => (∃ v_ w1_, (fun r w => ∃ a' b', a' < n ∧ b' < n ∧ a = nI a' ∧ b = nI b' ∧ r = some (zi (dI (dst n f (allB n) a' b'))) ∧ ∃ sn1 g1 sm1 D1, w = xFl P t fp sn1 g1 sm1 D1) (some v_) w1_ ∧ r_ = some (zi (nI 0)) ∧ w_ = w1_ ++ [zAl 1 1 (vp_updL o_ 0 (cvV v_))]) ∨ (∃ E_ w1_, (fun E w => E = eNSE ∧ (knB n a && knB n b) = false ∧ w = xFl P t fp sn0 g0 sm0 D) E_ w1_ ∧ r_ = some (zi (nI 1)) ∧ w_ = w1_ ++ [zAl 1 1 o_])) zNx := by
  refine z_startWD (by decide) [some (zr 1 0), some (zi (nI j)), some (zi a), some (zi b), some (zr 22 0), none] rfl (fun _ => Nat.le_of_ble_eq_true rfl) (fun _ => rfl) (fun X hD F E hT hin => ?_)
  subst hD
  have K0 : ∀ a' b' sn1 g1 sm1 D1, (a' < n) → (b' < n) → (a = nI a') → (b = nI b') → Z X [some (zr 1 0), some (zi (nI j)), some (zi a), some (zi b), some (zr 22 0), none] [zi (dI (dst n f (allB n) a' b')), zi (nI 0), zr 22 0] (xFl P t fp sn1 g1 sm1 D1 ++ [zAl 1 1 o_]) 3 18 10 := by
    intro a' b' sn1 g1 sm1 D1 h_1 h_2 h_3 h_4
    refine z_i2l F dX0_distance_10 ?_
    refine z_lastN F rfl (Nat.le_of_ble_eq_true rfl) (by omega) dX0_distance_11 ?_
    refine z_weq (w' := [_, _, _, _, _, _, _, _, _, _, _, _, _, _, _, _, _, _, _, _, _, _, _]) rfl ?_
    refine z_goto F (tgt := 19) dX0_distance_12 (by decide) ?_
    refine z_iconst F (nI 0) dX0_distance_19 rfl ?_
    exact z_iret F E rfl dX0_distance_20 (by omega) (by omega) (Or.inl ⟨_, _, ⟨a', b', h_1, h_2, h_3, h_4, rfl, sn1, g1, sm1, D1, rfl⟩, rfl, rfl⟩)
  have hH : ∀ (k0 n0 : Nat), k0 ≤ 3 → n0 ≤ 18 → ((knB n a && knB n b) = false) → Z X [some (zr 1 0), some (zi (nI j)), some (zi a), some (zi b), some (zr 22 0), none] [zr 23 0] (xFl P t fp sn0 g0 sm0 D ++ [zAl 1 1 o_]) k0 n0 15 := by
    intro k0 n0  hk0 hn0 h_5
    refine z_astore F dX0_distance_15 (Nat.le_of_ble_eq_true rfl) ?_
    refine z_leq (L' := [_, _, _, _, _, _]) rfl ?_
    refine z_iconst F (nI 1) dX0_distance_17 rfl ?_
    exact z_iret F E rfl dX0_distance_18 (by omega) (by omega) (Or.inr ⟨_, _, ⟨rfl, h_5, rfl⟩, rfl, rfl⟩)
  refine z_aload F dX0_distance_0 rfl ?_
  refine z_iconst F (nI 0) dX0_distance_2 rfl ?_
  refine z_aload_n F dX0_distance_3 rfl ?_
  refine z_iload_n F dX0_distance_4 rfl ?_
  refine z_iload_n F dX0_distance_5 rfl ?_
  refine z_iload_n F dX0_distance_6 rfl ?_
  refine z_callV F (c_pdist P t fp sn0 g0 sm0 D j n d f a b hj h1 h24 hP) 3 rfl (lw_V q791 q792 q793 q109 q794) (by decide +kernel) ⟨Nat.le_of_ble_eq_true rfl, Nat.le_of_ble_eq_true rfl⟩ ⟨by omega, by omega⟩ [0, 1, 2, 3, 4, 5, 6, 7, 8, 9, 10, 11, 12, 13, 14, 15, 16, 17, 18, 19, 20, 21] 23 ⟨rfl, rfl, rfl, ⟨Or.inr (congrArg some (zrnP rfl).symm), Or.inr rfl, Or.inl rfl, Or.inr rfl, Or.inr rfl, Or.inl rfl, Or.inl rfl, Or.inl rfl, Or.inl rfl, Or.inl rfl, Or.inl rfl, Or.inl rfl, Or.inl rfl, Or.inl rfl, Or.inl rfl, Or.inl rfl, Or.inl rfl, Or.inl rfl, Or.inl rfl, Or.inl rfl, Or.inl rfl, Or.inl rfl, trivial⟩⟩ (fun _ => rfl) (Nat.le_of_ble_eq_true rfl) ⟨⟨Or.inl rfl, Or.inl rfl, Or.inr trivial, Or.inl rfl, Or.inl rfl, Or.inr trivial, Or.inr trivial, Or.inr trivial, Or.inr trivial, Or.inr trivial, Or.inr trivial, Or.inr trivial, Or.inr trivial, Or.inr trivial, Or.inr trivial, Or.inr trivial, Or.inr trivial, Or.inr trivial, Or.inr trivial, Or.inr trivial, Or.inr trivial, Or.inr trivial, Or.inr trivial, trivial⟩, rfl, rfl, rfl, Nat.le_of_ble_eq_true rfl⟩ rfl zC1 rfl rfl dX0_distance_7 (fun r_7 w_7 hp => ?_) (fun E_ w_ hx => by obtain ⟨rfl, h_5, rfl⟩ := hx; exact zx_catch F hT [] ⟨0, 12, 15, 13⟩ [] rfl (fun _ h => nomatch h) (by decide) (by decide) lw_nse (z_weq (w' := zPl (pR _) _ :: _) (congrArg (fun z => z :: _) (zrnP rfl)) (hH _ _  (by omega) (by omega) h_5)))
  rcases hp with ⟨a', b', h_1, h_2, h_3, h_4, rfl, sn1, g1, sm1, D1, rfl⟩
  · refine z_weq (w' := zPl (pR _) _ :: _) (congrArg (fun z => z :: _) (zrnP rfl)) ?_; exact K0 a' b' sn1 g1 sm1 D1 h_1 h_2 h_3 h_4
theorem cw_pabout (Dg : va_G) (P : zPt) (t : Nat) (fp : Int32) (j n d : Nat) (f : Nat → Int32) (x : Int32) (hj : j < 8) (h : nok n d f) (hP : P j = some (nI n, nI d, f)) (o_ : Nat → Int64) : zCtrWD Dg yX0_about cX0_about 5 (some .int) [(0, 10, 13, 13)] 9 2 12 [zr 1 0, zi (nI j), zi x, zr 22 0] ((xH P t fp) ++ [zAl 1 1 o_]) (fun r_ w_ => (∃ v_ w1_, (fun r w => ∃ x', x' < 5 ∧ x = nI x' ∧ r = some (zi (nI (abD n d f x'))) ∧ w = xH P t fp) (some v_) w1_ ∧ r_ = some (zi (nI 0)) ∧ w_ = w1_ ++ [zAl 1 1 (vp_updL o_ 0 (cvV v_))]) ∨ (∃ E_ w1_, (fun E w => E = eNSE ∧ inB x (nI 0) (nI 4) = false ∧ w = xH P t fp) E_ w1_ ∧ r_ = some (zi (nI 1)) ∧ w_ = w1_ ++ [zAl 1 1 o_])) zNx := by
  refine z_startWD (by decide) [some (zr 1 0), some (zi (nI j)), some (zi x), some (zr 22 0), none] rfl (fun _ => Nat.le_of_ble_eq_true rfl) (fun _ => rfl) (fun X hD F E hT hin => ?_)
  subst hD
  have K0 : ∀ x', (x' < 5) → (x = nI x') → Z X [some (zr 1 0), some (zi (nI j)), some (zi x), some (zr 22 0), none] [zi (nI (abD n d f x')), zi (nI 0), zr 22 0] (xH P t fp ++ [zAl 1 1 o_]) 2 12 8 := by
    intro x' h_1 h_2
    refine z_i2l F dX0_about_8 ?_
    refine z_lastN F rfl (Nat.le_of_ble_eq_true rfl) (by omega) dX0_about_9 ?_
    refine z_weq (w' := [_, _, _, _, _, _, _, _, _, _, _, _, _, _, _, _, _, _, _, _, _, _, _]) rfl ?_
    refine z_goto F (tgt := 17) dX0_about_10 (by decide) ?_
    refine z_iconst F (nI 0) dX0_about_17 rfl ?_
    exact z_iret F E rfl dX0_about_18 (by omega) (by omega) (Or.inl ⟨_, _, ⟨x', h_1, h_2, rfl, rfl⟩, rfl, rfl⟩)
  have hH : ∀ (k0 n0 : Nat), k0 ≤ 2 → n0 ≤ 12 → (inB x (nI 0) (nI 4) = false) → Z X [some (zr 1 0), some (zi (nI j)), some (zi x), some (zr 22 0), none] [zr 23 0] (xH P t fp ++ [zAl 1 1 o_]) k0 n0 13 := by
    intro k0 n0  hk0 hn0 h_3
    refine z_astore F dX0_about_13 (Nat.le_of_ble_eq_true rfl) ?_
    refine z_leq (L' := [_, _, _, _, _]) rfl ?_
    refine z_iconst F (nI 1) dX0_about_15 rfl ?_
    exact z_iret F E rfl dX0_about_16 (by omega) (by omega) (Or.inr ⟨_, _, ⟨rfl, h_3, rfl⟩, rfl, rfl⟩)
  refine z_aload_n F dX0_about_0 rfl ?_
  refine z_iconst F (nI 0) dX0_about_1 rfl ?_
  refine z_aload_n F dX0_about_2 rfl ?_
  refine z_iload_n F dX0_about_3 rfl ?_
  refine z_iload_n F dX0_about_4 rfl ?_
  refine z_callV F (c_pabout P t fp j n d f x hj h hP) 2 rfl (lw_V q761 q762 q763 q109 q764) (by decide +kernel) ⟨Nat.le_of_ble_eq_true rfl, Nat.le_of_ble_eq_true rfl⟩ ⟨by omega, by omega⟩ [0, 1, 2, 3, 4, 5, 6, 7, 8, 9, 10, 11, 12, 13, 14, 15, 16, 17, 18, 19, 20, 21] 23 ⟨rfl, rfl, rfl, ⟨Or.inr (congrArg some (zrnP rfl).symm), Or.inr rfl, Or.inl rfl, Or.inl rfl, Or.inl rfl, Or.inl rfl, Or.inl rfl, Or.inl rfl, Or.inl rfl, Or.inl rfl, Or.inl rfl, Or.inl rfl, Or.inl rfl, Or.inl rfl, Or.inl rfl, Or.inl rfl, Or.inl rfl, Or.inl rfl, Or.inl rfl, Or.inl rfl, Or.inl rfl, Or.inl rfl, trivial⟩⟩ (fun _ => rfl) (Nat.le_of_ble_eq_true rfl) ⟨⟨Or.inl rfl, Or.inl rfl, Or.inr trivial, Or.inr trivial, Or.inr trivial, Or.inr trivial, Or.inr trivial, Or.inr trivial, Or.inr trivial, Or.inr trivial, Or.inr trivial, Or.inr trivial, Or.inr trivial, Or.inr trivial, Or.inr trivial, Or.inr trivial, Or.inr trivial, Or.inr trivial, Or.inr trivial, Or.inr trivial, Or.inr trivial, Or.inr trivial, Or.inr trivial, trivial⟩, rfl, rfl, rfl, Nat.le_of_ble_eq_true rfl⟩ rfl zC1 rfl rfl dX0_about_5 (fun r_5 w_5 hp => ?_) (fun E_ w_ hx => by obtain ⟨rfl, h_3, rfl⟩ := hx; exact zx_catch F hT [] ⟨0, 10, 13, 13⟩ [] rfl (fun _ h => nomatch h) (by decide) (by decide) lw_nse (z_weq (w' := zPl (pR _) _ :: _) (congrArg (fun z => z :: _) (zrnP rfl)) (hH _ _  (by omega) (by omega) h_3)))
  rcases hp with ⟨x', h_1, h_2, rfl, rfl⟩
  · refine z_weq (w' := zPl (pR _) _ :: _) (congrArg (fun z => z :: _) (zrnP rfl)) ?_; exact K0 x' h_1 h_2
theorem cw_plineAt (Dg : va_G) (P : zPt) (t : Nat) (fp : Int32) (j n d : Nat) (f : Nat → Int32) (x : Int32) (hj : j < 8) (h : nok n d f) (hP : P j = some (nI n, nI d, f)) (o_ : Nat → Int64) : zCtrWD Dg yX0_lineAt cX0_lineAt 5 (some .int) [(0, 10, 13, 13)] 9 3 112 [zr 1 0, zi (nI j), zi x, zr 22 0] ((xH P t fp) ++ [zAl 1 1 o_]) (fun r_ w_ => (∃ v_ w1_, (fun r w => ∃ i, i < (prs n f).length ∧ x = nI i ∧ r = some (zi (nI (pcode ((prs n f).getD i (0, 0))))) ∧ w = xH P t fp) (some v_) w1_ ∧ r_ = some (zi (nI 0)) ∧ w_ = w1_ ++ [zAl 1 1 (vp_updL o_ 0 (cvV v_))]) ∨ (∃ E_ w1_, (fun E w => E = eNSE ∧ (∀ i, i < (prs n f).length → x ≠ nI i) ∧ w = xH P t fp) E_ w1_ ∧ r_ = some (zi (nI 1)) ∧ w_ = w1_ ++ [zAl 1 1 o_])) zNx := by
  refine z_startWD (by decide) [some (zr 1 0), some (zi (nI j)), some (zi x), some (zr 22 0), none] rfl (fun _ => Nat.le_of_ble_eq_true rfl) (fun _ => rfl) (fun X hD F E hT hin => ?_)
  subst hD
  have K0 : ∀ i, (i < (prs n f).length) → (x = nI i) → Z X [some (zr 1 0), some (zi (nI j)), some (zi x), some (zr 22 0), none] [zi (nI (pcode ((prs n f).getD i (0, 0)))), zi (nI 0), zr 22 0] (xH P t fp ++ [zAl 1 1 o_]) 3 112 8 := by
    intro i h_1 h_2
    refine z_i2l F dX0_lineAt_8 ?_
    refine z_lastN F rfl (Nat.le_of_ble_eq_true rfl) (by omega) dX0_lineAt_9 ?_
    refine z_weq (w' := [_, _, _, _, _, _, _, _, _, _, _, _, _, _, _, _, _, _, _, _, _, _, _]) rfl ?_
    refine z_goto F (tgt := 17) dX0_lineAt_10 (by decide) ?_
    refine z_iconst F (nI 0) dX0_lineAt_17 rfl ?_
    exact z_iret F E rfl dX0_lineAt_18 (by omega) (by omega) (Or.inl ⟨_, _, ⟨i, h_1, h_2, rfl, rfl⟩, rfl, rfl⟩)
  have hH : ∀ (k0 n0 : Nat), k0 ≤ 3 → n0 ≤ 112 → (∀ i, i < (prs n f).length → x ≠ nI i) → Z X [some (zr 1 0), some (zi (nI j)), some (zi x), some (zr 22 0), none] [zr 23 0] (xH P t fp ++ [zAl 1 1 o_]) k0 n0 13 := by
    intro k0 n0  hk0 hn0 h_3
    refine z_astore F dX0_lineAt_13 (Nat.le_of_ble_eq_true rfl) ?_
    refine z_leq (L' := [_, _, _, _, _]) rfl ?_
    refine z_iconst F (nI 1) dX0_lineAt_15 rfl ?_
    exact z_iret F E rfl dX0_lineAt_16 (by omega) (by omega) (Or.inr ⟨_, _, ⟨rfl, h_3, rfl⟩, rfl, rfl⟩)
  refine z_aload_n F dX0_lineAt_0 rfl ?_
  refine z_iconst F (nI 0) dX0_lineAt_1 rfl ?_
  refine z_aload_n F dX0_lineAt_2 rfl ?_
  refine z_iload_n F dX0_lineAt_3 rfl ?_
  refine z_iload_n F dX0_lineAt_4 rfl ?_
  refine z_callV F (c_plineAt P t fp j n d f x hj h hP) 2 rfl (lw_V q775 q776 q777 q109 q778) (by decide +kernel) ⟨Nat.le_of_ble_eq_true rfl, Nat.le_of_ble_eq_true rfl⟩ ⟨by omega, by omega⟩ [0, 1, 2, 3, 4, 5, 6, 7, 8, 9, 10, 11, 12, 13, 14, 15, 16, 17, 18, 19, 20, 21] 23 ⟨rfl, rfl, rfl, ⟨Or.inr (congrArg some (zrnP rfl).symm), Or.inr rfl, Or.inl rfl, Or.inl rfl, Or.inl rfl, Or.inl rfl, Or.inl rfl, Or.inl rfl, Or.inl rfl, Or.inl rfl, Or.inl rfl, Or.inl rfl, Or.inl rfl, Or.inl rfl, Or.inl rfl, Or.inl rfl, Or.inl rfl, Or.inl rfl, Or.inl rfl, Or.inl rfl, Or.inl rfl, Or.inl rfl, trivial⟩⟩ (fun _ => rfl) (Nat.le_of_ble_eq_true rfl) ⟨⟨Or.inl rfl, Or.inl rfl, Or.inr trivial, Or.inr trivial, Or.inr trivial, Or.inr trivial, Or.inr trivial, Or.inr trivial, Or.inr trivial, Or.inr trivial, Or.inr trivial, Or.inr trivial, Or.inr trivial, Or.inr trivial, Or.inr trivial, Or.inr trivial, Or.inr trivial, Or.inr trivial, Or.inr trivial, Or.inr trivial, Or.inr trivial, Or.inr trivial, Or.inr trivial, trivial⟩, rfl, rfl, rfl, Nat.le_of_ble_eq_true rfl⟩ rfl zC1 rfl rfl dX0_lineAt_5 (fun r_5 w_5 hp => ?_) (fun E_ w_ hx => by obtain ⟨rfl, h_3, rfl⟩ := hx; exact zx_catch F hT [] ⟨0, 10, 13, 13⟩ [] rfl (fun _ h => nomatch h) (by decide) (by decide) lw_nse (z_weq (w' := zPl (pR _) _ :: _) (congrArg (fun z => z :: _) (zrnP rfl)) (hH _ _  (by omega) (by omega) h_3)))
  rcases hp with ⟨i, h_1, h_2, rfl, rfl⟩
  · refine z_weq (w' := zPl (pR _) _ :: _) (congrArg (fun z => z :: _) (zrnP rfl)) ?_; exact K0 i h_1 h_2
theorem cw_papart (Dg : va_G) (P : zPt) (t : Nat) (fp sn0 g0 sm0 : Int32) (D : Nat → Int32) (pl : Int32) (M : Nat → Nat → Int32) (fr ln : Nat → Int32) (j n d : Nat) (f : Nat → Int32) (a b : Int32) (hj : j < 8) (h : nok n d f) (hP : P j = some (nI n, nI d, f)) (o_ : Nat → Int64) : zCtrWD Dg yX0_apart cX0_apart 6 (some .int) [(0, 12, 15, 13)] 9 3 18 [zr 1 0, zi (nI j), zi a, zi b, zr 22 0] ((xFF P t fp sn0 g0 sm0 D pl M fr ln) ++ [zAl 1 1 o_]) (fun r_ w_ => (∃ v_ w1_, (fun r w => ∃ a' b', a' < n ∧ b' < n ∧ a = nI a' ∧ b = nI b' ∧ r = some (zi (nI (apV n f a' b'))) ∧ ∃ pl M fr ln, w = xFF P t fp sn0 g0 sm0 D pl M fr ln) (some v_) w1_ ∧ r_ = some (zi (nI 0)) ∧ w_ = w1_ ++ [zAl 1 1 (vp_updL o_ 0 (cvV v_))]) ∨ (∃ E_ w1_, (fun E w => E = eNSE ∧ (knB n a && knB n b) = false ∧ w = xFF P t fp sn0 g0 sm0 D pl M fr ln) E_ w1_ ∧ r_ = some (zi (nI 1)) ∧ w_ = w1_ ++ [zAl 1 1 o_])) zNx := by
  refine z_startWD (by decide) [some (zr 1 0), some (zi (nI j)), some (zi a), some (zi b), some (zr 22 0), none] rfl (fun _ => Nat.le_of_ble_eq_true rfl) (fun _ => rfl) (fun X hD F E hT hin => ?_)
  subst hD
  have K0 : ∀ a' b' pl M fr ln, (a' < n) → (b' < n) → (a = nI a') → (b = nI b') → Z X [some (zr 1 0), some (zi (nI j)), some (zi a), some (zi b), some (zr 22 0), none] [zi (nI (apV n f a' b')), zi (nI 0), zr 22 0] (xFF P t fp sn0 g0 sm0 D pl M fr ln ++ [zAl 1 1 o_]) 3 18 10 := by
    intro a' b' pl M fr ln h_1 h_2 h_3 h_4
    refine z_i2l F dX0_apart_10 ?_
    refine z_lastN F rfl (Nat.le_of_ble_eq_true rfl) (by omega) dX0_apart_11 ?_
    refine z_weq (w' := [_, _, _, _, _, _, _, _, _, _, _, _, _, _, _, _, _, _, _, _, _, _, _]) rfl ?_
    refine z_goto F (tgt := 19) dX0_apart_12 (by decide) ?_
    refine z_iconst F (nI 0) dX0_apart_19 rfl ?_
    exact z_iret F E rfl dX0_apart_20 (by omega) (by omega) (Or.inl ⟨_, _, ⟨a', b', h_1, h_2, h_3, h_4, rfl, pl, M, fr, ln, rfl⟩, rfl, rfl⟩)
  have hH : ∀ (k0 n0 : Nat), k0 ≤ 3 → n0 ≤ 18 → ((knB n a && knB n b) = false) → Z X [some (zr 1 0), some (zi (nI j)), some (zi a), some (zi b), some (zr 22 0), none] [zr 23 0] (xFF P t fp sn0 g0 sm0 D pl M fr ln ++ [zAl 1 1 o_]) k0 n0 15 := by
    intro k0 n0  hk0 hn0 h_5
    refine z_astore F dX0_apart_15 (Nat.le_of_ble_eq_true rfl) ?_
    refine z_leq (L' := [_, _, _, _, _, _]) rfl ?_
    refine z_iconst F (nI 1) dX0_apart_17 rfl ?_
    exact z_iret F E rfl dX0_apart_18 (by omega) (by omega) (Or.inr ⟨_, _, ⟨rfl, h_5, rfl⟩, rfl, rfl⟩)
  refine z_aload F dX0_apart_0 rfl ?_
  refine z_iconst F (nI 0) dX0_apart_2 rfl ?_
  refine z_aload_n F dX0_apart_3 rfl ?_
  refine z_iload_n F dX0_apart_4 rfl ?_
  refine z_iload_n F dX0_apart_5 rfl ?_
  refine z_iload_n F dX0_apart_6 rfl ?_
  refine z_callV F (c_papart P t fp sn0 g0 sm0 D pl M fr ln j n d f a b hj h hP) 3 rfl (lw_V q872 q873 q874 q109 q875) (by decide +kernel) ⟨Nat.le_of_ble_eq_true rfl, Nat.le_of_ble_eq_true rfl⟩ ⟨by omega, by omega⟩ [0, 1, 2, 3, 4, 5, 6, 7, 8, 9, 10, 11, 12, 13, 14, 15, 16, 17, 18, 19, 20, 21] 23 ⟨rfl, rfl, rfl, ⟨Or.inr (congrArg some (zrnP rfl).symm), Or.inr rfl, Or.inl rfl, Or.inr rfl, Or.inr rfl, Or.inr rfl, Or.inr rfl, Or.inr rfl, Or.inr rfl, Or.inl rfl, Or.inl rfl, Or.inl rfl, Or.inl rfl, Or.inl rfl, Or.inl rfl, Or.inl rfl, Or.inl rfl, Or.inl rfl, Or.inl rfl, Or.inl rfl, Or.inl rfl, Or.inl rfl, trivial⟩⟩ (fun _ => rfl) (Nat.le_of_ble_eq_true rfl) ⟨⟨Or.inl rfl, Or.inl rfl, Or.inr trivial, Or.inl rfl, Or.inl rfl, Or.inl rfl, Or.inl rfl, Or.inl rfl, Or.inl rfl, Or.inr trivial, Or.inr trivial, Or.inr trivial, Or.inr trivial, Or.inr trivial, Or.inr trivial, Or.inr trivial, Or.inr trivial, Or.inr trivial, Or.inr trivial, Or.inr trivial, Or.inr trivial, Or.inr trivial, Or.inr trivial, trivial⟩, rfl, rfl, rfl, Nat.le_of_ble_eq_true rfl⟩ rfl zC1 rfl rfl dX0_apart_7 (fun r_7 w_7 hp => ?_) (fun E_ w_ hx => by obtain ⟨rfl, h_5, rfl⟩ := hx; exact zx_catch F hT [] ⟨0, 12, 15, 13⟩ [] rfl (fun _ h => nomatch h) (by decide) (by decide) lw_nse (z_weq (w' := zPl (pR _) _ :: _) (congrArg (fun z => z :: _) (zrnP rfl)) (hH _ _  (by omega) (by omega) h_5)))
  rcases hp with ⟨a', b', h_1, h_2, h_3, h_4, rfl, pl, M, fr, ln, rfl⟩
  · refine z_weq (w' := zPl (pR _) _ :: _) (congrArg (fun z => z :: _) (zrnP rfl)) ?_; exact K0 a' b' pl M fr ln h_1 h_2 h_3 h_4
theorem cw_pfar (Dg : va_G) (P : zPt) (t : Nat) (fp sn0 g0 sm0 : Int32) (D : Nat → Int32) (pl : Int32) (M : Nat → Nat → Int32) (fr ln : Nat → Int32) (j n d : Nat) (f : Nat → Int32) (x : Nat) (hj : j < 8) (h : nok n d f) (hP : P j = some (nI n, nI d, f)) (hx : x < 6) (o_ : Nat → Int64) : zCtrWD Dg yX0_far cX0_far 5 (some .int) [(0, 10, 13, 13)] 9 3 118 [zr 1 0, zi (nI j), zi (nI x), zr 22 0] ((xFF P t fp sn0 g0 sm0 D pl M fr ln) ++ [zAl 1 1 o_]) (fun r_ w_ => (∃ v_ w1_, (fun r w => r = some (zi (farV n f x)) ∧ ∃ sn0 g0 sm0 D pl M fr ln, w = xFF P t fp sn0 g0 sm0 D pl M fr ln) (some v_) w1_ ∧ r_ = some (zi (nI 0)) ∧ w_ = w1_ ++ [zAl 1 1 (vp_updL o_ 0 (cvV v_))])) zNx := by
  refine z_startWD (by decide) [some (zr 1 0), some (zi (nI j)), some (zi (nI x)), some (zr 22 0), none] rfl (fun _ => Nat.le_of_ble_eq_true rfl) (fun _ => rfl) (fun X hD F E hT hin => ?_)
  subst hD
  have K0 : ∀ sn0 g0 sm0 D pl M fr ln, Z X [some (zr 1 0), some (zi (nI j)), some (zi (nI x)), some (zr 22 0), none] [zi (farV n f x), zi (nI 0), zr 22 0] (xFF P t fp sn0 g0 sm0 D pl M fr ln ++ [zAl 1 1 o_]) 3 118 8 := by
    intro sn0 g0 sm0 D pl M fr ln 
    refine z_i2l F dX0_far_8 ?_
    refine z_lastN F rfl (Nat.le_of_ble_eq_true rfl) (by omega) dX0_far_9 ?_
    refine z_weq (w' := [_, _, _, _, _, _, _, _, _, _, _, _, _, _, _, _, _, _, _, _, _, _, _]) rfl ?_
    refine z_goto F (tgt := 17) dX0_far_10 (by decide) ?_
    refine z_iconst F (nI 0) dX0_far_17 rfl ?_
    exact z_iret F E rfl dX0_far_18 (by omega) (by omega) (⟨_, _, ⟨rfl, sn0, g0, sm0, D, pl, M, fr, ln, rfl⟩, rfl, rfl⟩)
  refine z_aload_n F dX0_far_0 rfl ?_
  refine z_iconst F (nI 0) dX0_far_1 rfl ?_
  refine z_aload_n F dX0_far_2 rfl ?_
  refine z_iload_n F dX0_far_3 rfl ?_
  refine z_iload_n F dX0_far_4 rfl ?_
  refine z_callV F (c_pfar P t fp sn0 g0 sm0 D pl M fr ln j n d f x hj h hP hx) 2 rfl (lw_V q814 q815 q816 q109 q817) (by decide +kernel) ⟨Nat.le_of_ble_eq_true rfl, Nat.le_of_ble_eq_true rfl⟩ ⟨by omega, by omega⟩ [0, 1, 2, 3, 4, 5, 6, 7, 8, 9, 10, 11, 12, 13, 14, 15, 16, 17, 18, 19, 20, 21] 23 ⟨rfl, rfl, rfl, ⟨Or.inr (congrArg some (zrnP rfl).symm), Or.inr rfl, Or.inl rfl, Or.inr rfl, Or.inr rfl, Or.inr rfl, Or.inr rfl, Or.inr rfl, Or.inr rfl, Or.inl rfl, Or.inl rfl, Or.inl rfl, Or.inl rfl, Or.inl rfl, Or.inl rfl, Or.inl rfl, Or.inl rfl, Or.inl rfl, Or.inl rfl, Or.inl rfl, Or.inl rfl, Or.inl rfl, trivial⟩⟩ (fun _ => rfl) (Nat.le_of_ble_eq_true rfl) ⟨⟨Or.inl rfl, Or.inl rfl, Or.inr trivial, Or.inl rfl, Or.inl rfl, Or.inl rfl, Or.inl rfl, Or.inl rfl, Or.inl rfl, Or.inr trivial, Or.inr trivial, Or.inr trivial, Or.inr trivial, Or.inr trivial, Or.inr trivial, Or.inr trivial, Or.inr trivial, Or.inr trivial, Or.inr trivial, Or.inr trivial, Or.inr trivial, Or.inr trivial, Or.inr trivial, trivial⟩, rfl, rfl, rfl, Nat.le_of_ble_eq_true rfl⟩ rfl zC1 rfl rfl dX0_far_5 (fun r_5 w_5 hp => ?_) (fun _ _ h => h.elim)
  rcases hp with ⟨rfl, sn0, g0, sm0, D, pl, M, fr, ln, rfl⟩
  · refine z_weq (w' := zPl (pR _) _ :: _) (congrArg (fun z => z :: _) (zrnP rfl)) ?_; exact K0 sn0 g0 sm0 D pl M fr ln
theorem cw_pfar_bad (Dg : va_G) (P : zPt) (t : Nat) (fp : Int32) (j n d : Nat) (f : Nat → Int32) (x : Int32) (hj : j < 8) (hP : P j = some (nI n, nI d, f)) (hx : inB x (nI 0) (nI 5) = false) (o_ : Nat → Int64) : zCtrWD Dg yX0_far cX0_far 5 (some .int) [(0, 10, 13, 13)] 9 3 118 [zr 1 0, zi (nI j), zi x, zr 22 0] ((xH P t fp) ++ [zAl 1 1 o_]) (fun r_ w_ => (∃ v_ w1_, (fun r w => False) (some v_) w1_ ∧ r_ = some (zi (nI 0)) ∧ w_ = w1_ ++ [zAl 1 1 (vp_updL o_ 0 (cvV v_))]) ∨ (∃ E_ w1_, (fun E w => E = eNSE ∧ True ∧ w = xH P t fp) E_ w1_ ∧ r_ = some (zi (nI 1)) ∧ w_ = w1_ ++ [zAl 1 1 o_])) zNx := by
  refine z_startWD (by decide) [some (zr 1 0), some (zi (nI j)), some (zi x), some (zr 22 0), none] rfl (fun _ => Nat.le_of_ble_eq_true rfl) (fun _ => rfl) (fun X hD F E hT hin => ?_)
  subst hD
  have hH : ∀ (k0 n0 : Nat), k0 ≤ 3 → n0 ≤ 118 → (True) → Z X [some (zr 1 0), some (zi (nI j)), some (zi x), some (zr 22 0), none] [zr 23 0] (xH P t fp ++ [zAl 1 1 o_]) k0 n0 13 := by
    intro k0 n0  hk0 hn0 h_2
    refine z_astore F dX0_far_13 (Nat.le_of_ble_eq_true rfl) ?_
    refine z_leq (L' := [_, _, _, _, _]) rfl ?_
    refine z_iconst F (nI 1) dX0_far_15 rfl ?_
    exact z_iret F E rfl dX0_far_16 (by omega) (by omega) (Or.inr ⟨_, _, ⟨rfl, h_2, rfl⟩, rfl, rfl⟩)
  refine z_aload_n F dX0_far_0 rfl ?_
  refine z_iconst F (nI 0) dX0_far_1 rfl ?_
  refine z_aload_n F dX0_far_2 rfl ?_
  refine z_iload_n F dX0_far_3 rfl ?_
  refine z_iload_n F dX0_far_4 rfl ?_
  refine z_callV F (c_pfar_bad P t fp j n d f x hj hP hx) 2 rfl (lw_V q814 q815 q816 q109 q817) (by decide +kernel) ⟨Nat.le_of_ble_eq_true rfl, Nat.le_of_ble_eq_true rfl⟩ ⟨by omega, by omega⟩ [0, 1, 2, 3, 4, 5, 6, 7, 8, 9, 10, 11, 12, 13, 14, 15, 16, 17, 18, 19, 20, 21] 23 ⟨rfl, rfl, rfl, ⟨Or.inr (congrArg some (zrnP rfl).symm), Or.inr rfl, Or.inl rfl, Or.inl rfl, Or.inl rfl, Or.inl rfl, Or.inl rfl, Or.inl rfl, Or.inl rfl, Or.inl rfl, Or.inl rfl, Or.inl rfl, Or.inl rfl, Or.inl rfl, Or.inl rfl, Or.inl rfl, Or.inl rfl, Or.inl rfl, Or.inl rfl, Or.inl rfl, Or.inl rfl, Or.inl rfl, trivial⟩⟩ (fun _ => rfl) (Nat.le_of_ble_eq_true rfl) ⟨⟨Or.inl rfl, Or.inl rfl, Or.inr trivial, Or.inr trivial, Or.inr trivial, Or.inr trivial, Or.inr trivial, Or.inr trivial, Or.inr trivial, Or.inr trivial, Or.inr trivial, Or.inr trivial, Or.inr trivial, Or.inr trivial, Or.inr trivial, Or.inr trivial, Or.inr trivial, Or.inr trivial, Or.inr trivial, Or.inr trivial, Or.inr trivial, Or.inr trivial, Or.inr trivial, trivial⟩, rfl, rfl, rfl, Nat.le_of_ble_eq_true rfl⟩ rfl zC1 rfl rfl dX0_far_5 (fun r_5 w_5 hp => ?_) (fun E_ w_ hx => by obtain ⟨rfl, h_2, rfl⟩ := hx; exact zx_catch F hT [] ⟨0, 10, 13, 13⟩ [] rfl (fun _ h => nomatch h) (by decide) (by decide) lw_nse (z_weq (w' := zPl (pR _) _ :: _) (congrArg (fun z => z :: _) (zrnP rfl)) (hH _ _  (by omega) (by omega) h_2)))
  exact hp.elim
theorem cw_pbetter (Dg : va_G) (P : zPt) (t : Nat) (fp sn0 g0 sm0 : Int32) (D : Nat → Int32) (j n d : Nat) (f : Nat → Int32) (hj : j < 8) (h : nok n d f) (hn : n ≤ 12) (hP : P j = some (nI n, nI d, f)) (o_ : Nat → Int64) : zCtrWD Dg yX0_better cX0_better 4 (some .int) [(0, 9, 12, 13)] 9 3000 52000 [zr 1 0, zi (nI j), zr 22 0] ((xFl P t fp sn0 g0 sm0 D) ++ [zAl 1 1 o_]) (fun r_ w_ => (∃ v_ w1_, (fun r w => r = some (zi (nI (brs n f).1)) ∧ ∃ sn g sm D, w = xFl (zput P j (some (nI n, nI d, (brs n f).2))) t fp sn g sm D) (some v_) w1_ ∧ r_ = some (zi (nI 0)) ∧ w_ = w1_ ++ [zAl 1 1 (vp_updL o_ 0 (cvV v_))])) zNx := by
  refine z_startWD (by decide) [some (zr 1 0), some (zi (nI j)), some (zr 22 0), none] rfl (fun _ => Nat.le_of_ble_eq_true rfl) (fun _ => rfl) (fun X hD F E hT hin => ?_)
  subst hD
  have K0 : ∀ sn g sm D, Z X [some (zr 1 0), some (zi (nI j)), some (zr 22 0), none] [zi (nI (brs n f).1), zi (nI 0), zr 22 0] (xFl (zput P j (some (nI n, nI d, (brs n f).2))) t fp sn g sm D ++ [zAl 1 1 o_]) 3000 52000 7 := by
    intro sn g sm D 
    refine z_i2l F dX0_better_7 ?_
    refine z_lastN F rfl (Nat.le_of_ble_eq_true rfl) (by omega) dX0_better_8 ?_
    refine z_weq (w' := [_, _, _, _, _, _, _, _, _, _, _, _, _, _, _, _, _, _, _, _, _, _, _]) rfl ?_
    refine z_goto F (tgt := 15) dX0_better_9 (by decide) ?_
    refine z_iconst F (nI 0) dX0_better_15 rfl ?_
    exact z_iret F E rfl dX0_better_16 (by omega) (by omega) (⟨_, _, ⟨rfl, sn, g, sm, D, rfl⟩, rfl, rfl⟩)
  refine z_aload_n F dX0_better_0 rfl ?_
  refine z_iconst F (nI 0) dX0_better_1 rfl ?_
  refine z_aload_n F dX0_better_2 rfl ?_
  refine z_iload_n F dX0_better_3 rfl ?_
  refine z_callV F (c_pbetter P t fp sn0 g0 sm0 D j n d f hj h hn hP) 1 rfl (lw_V q928 q929 q930 q109 q931) (by decide +kernel) ⟨Nat.le_of_ble_eq_true rfl, Nat.le_of_ble_eq_true rfl⟩ ⟨by omega, by omega⟩ [0, 1, 2, 3, 4, 5, 6, 7, 8, 9, 10, 11, 12, 13, 14, 15, 16, 17, 18, 19, 20, 21] 23 ⟨rfl, rfl, rfl, ⟨Or.inr (congrArg some (zrnP rfl).symm), Or.inr rfl, Or.inl rfl, Or.inr rfl, Or.inr rfl, Or.inl rfl, Or.inl rfl, Or.inl rfl, Or.inl rfl, Or.inl rfl, Or.inl rfl, Or.inl rfl, Or.inl rfl, Or.inl rfl, Or.inl rfl, Or.inl rfl, Or.inl rfl, Or.inl rfl, Or.inl rfl, Or.inl rfl, Or.inl rfl, Or.inl rfl, trivial⟩⟩ (fun _ => rfl) (Nat.le_of_ble_eq_true rfl) ⟨⟨Or.inl rfl, Or.inl rfl, Or.inr trivial, Or.inl rfl, Or.inl rfl, Or.inr trivial, Or.inr trivial, Or.inr trivial, Or.inr trivial, Or.inr trivial, Or.inr trivial, Or.inr trivial, Or.inr trivial, Or.inr trivial, Or.inr trivial, Or.inr trivial, Or.inr trivial, Or.inr trivial, Or.inr trivial, Or.inr trivial, Or.inr trivial, Or.inr trivial, Or.inr trivial, trivial⟩, rfl, rfl, rfl, Nat.le_of_ble_eq_true rfl⟩ rfl zC1 rfl rfl dX0_better_4 (fun r_4 w_4 hp => ?_) (fun _ _ h => h.elim)
  rcases hp with ⟨rfl, sn, g, sm, D, rfl⟩
  · refine z_weq (w' := zPl (pR _) _ :: _) (congrArg (fun z => z :: _) (zrnP rfl)) ?_; exact K0 sn g sm D
theorem cw_pbetter_big (Dg : va_G) (P : zPt) (t : Nat) (fp : Int32) (j n d : Nat) (f : Nat → Int32) (hj : j < 8) (h : nok n d f) (hn : 12 < n) (hP : P j = some (nI n, nI d, f)) (o_ : Nat → Int64) : zCtrWD Dg yX0_better cX0_better 4 (some .int) [(0, 9, 12, 13)] 9 3000 52000 [zr 1 0, zi (nI j), zr 22 0] ((xH P t fp) ++ [zAl 1 1 o_]) (fun r_ w_ => (∃ v_ w1_, (fun r w => r = some (zi (-1)) ∧ w = xH P t fp) (some v_) w1_ ∧ r_ = some (zi (nI 0)) ∧ w_ = w1_ ++ [zAl 1 1 (vp_updL o_ 0 (cvV v_))])) zNx := by
  refine z_startWD (by decide) [some (zr 1 0), some (zi (nI j)), some (zr 22 0), none] rfl (fun _ => Nat.le_of_ble_eq_true rfl) (fun _ => rfl) (fun X hD F E hT hin => ?_)
  subst hD
  have K0 : ∀ (_ : True), Z X [some (zr 1 0), some (zi (nI j)), some (zr 22 0), none] [zi (-1), zi (nI 0), zr 22 0] (xH P t fp ++ [zAl 1 1 o_]) 3000 52000 7 := by
    intro _ 
    refine z_i2l F dX0_better_7 ?_
    refine z_lastN F rfl (Nat.le_of_ble_eq_true rfl) (by omega) dX0_better_8 ?_
    refine z_weq (w' := [_, _, _, _, _, _, _, _, _, _, _, _, _, _, _, _, _, _, _, _, _, _, _]) rfl ?_
    refine z_goto F (tgt := 15) dX0_better_9 (by decide) ?_
    refine z_iconst F (nI 0) dX0_better_15 rfl ?_
    exact z_iret F E rfl dX0_better_16 (by omega) (by omega) (⟨_, _, ⟨rfl, rfl⟩, rfl, rfl⟩)
  refine z_aload_n F dX0_better_0 rfl ?_
  refine z_iconst F (nI 0) dX0_better_1 rfl ?_
  refine z_aload_n F dX0_better_2 rfl ?_
  refine z_iload_n F dX0_better_3 rfl ?_
  refine z_callV F (c_pbetter_big P t fp j n d f hj h hn hP) 1 rfl (lw_V q928 q929 q930 q109 q931) (by decide +kernel) ⟨Nat.le_of_ble_eq_true rfl, Nat.le_of_ble_eq_true rfl⟩ ⟨by omega, by omega⟩ [0, 1, 2, 3, 4, 5, 6, 7, 8, 9, 10, 11, 12, 13, 14, 15, 16, 17, 18, 19, 20, 21] 23 ⟨rfl, rfl, rfl, ⟨Or.inr (congrArg some (zrnP rfl).symm), Or.inr rfl, Or.inl rfl, Or.inl rfl, Or.inl rfl, Or.inl rfl, Or.inl rfl, Or.inl rfl, Or.inl rfl, Or.inl rfl, Or.inl rfl, Or.inl rfl, Or.inl rfl, Or.inl rfl, Or.inl rfl, Or.inl rfl, Or.inl rfl, Or.inl rfl, Or.inl rfl, Or.inl rfl, Or.inl rfl, Or.inl rfl, trivial⟩⟩ (fun _ => rfl) (Nat.le_of_ble_eq_true rfl) ⟨⟨Or.inl rfl, Or.inl rfl, Or.inr trivial, Or.inr trivial, Or.inr trivial, Or.inr trivial, Or.inr trivial, Or.inr trivial, Or.inr trivial, Or.inr trivial, Or.inr trivial, Or.inr trivial, Or.inr trivial, Or.inr trivial, Or.inr trivial, Or.inr trivial, Or.inr trivial, Or.inr trivial, Or.inr trivial, Or.inr trivial, Or.inr trivial, Or.inr trivial, Or.inr trivial, trivial⟩, rfl, rfl, rfl, Nat.le_of_ble_eq_true rfl⟩ rfl zC1 rfl rfl dX0_better_4 (fun r_4 w_4 hp => ?_) (fun _ _ h => h.elim)
  rcases hp with ⟨rfl, rfl⟩
  · refine z_weq (w' := zPl (pR _) _ :: _) (congrArg (fun z => z :: _) (zrnP rfl)) ?_; exact K0 trivial
theorem cw_pchange (Dg : va_G) (P : zPt) (t : Nat) (fp : Int32) (j n d : Nat) (f : Nat → Int32) (x y : Int32) (cr : Bool) (hj : j < 8) (h : nok n d f) (hP : P j = some (nI n, nI d, f)) (o_ : Nat → Int64) : zCtrWD Dg yX0_change cX0_change 7 (some .int) [(0, 21, 24, 13)] 9 3 112 [zr 1 0, zi (nI j), zi x, zi y, zi (bI cr), zr 22 0] ((xH P t fp) ++ [zAl 1 1 o_]) (fun r_ w_ => (∃ v_ w1_, (fun r w => ∃ i' j', i' < j' ∧ j' < (prs n f).length ∧ x = nI i' ∧ y = nI j' ∧ r = some (zi (bI (cok n f i' j' cr))) ∧ w = xH (zput P j (some (nI n, nI d, if cok n f i' j' cr then cgo n f i' j' cr else f))) t fp) (some v_) w1_ ∧ r_ = some (zi (nI 0)) ∧ w_ = w1_ ++ [zAl 1 1 (vp_updL o_ 0 (cvV v_))]) ∨ (∃ E_ w1_, (fun E w => E = eNSE ∧ (∀ i' j', i' < j' → j' < (prs n f).length → x = nI i' → y = nI j' → False) ∧ w = xH P t fp) E_ w1_ ∧ r_ = some (zi (nI 1)) ∧ w_ = w1_ ++ [zAl 1 1 o_])) zNx := by
  refine z_startWD (by decide) [some (zr 1 0), some (zi (nI j)), some (zi x), some (zi y), some (zi (bI cr)), some (zr 22 0), none] rfl (fun _ => Nat.le_of_ble_eq_true rfl) (fun _ => rfl) (fun X hD F E hT hin => ?_)
  subst hD
  have K0 : ∀ i' j', (i' < j') → (j' < (prs n f).length) → (x = nI i') → (y = nI j') → Z X [some (zr 1 0), some (zi (nI j)), some (zi x), some (zi y), some (zi (bI cr)), some (zr 22 0), none] [zi (bI (cok n f i' j' cr)), zi (nI 0), zr 22 0] (xH (zput P j (some (nI n, nI d, if cok n f i' j' cr then cgo n f i' j' cr else f))) t fp ++ [zAl 1 1 o_]) 3 112 12 := by
    intro i' j' h_1 h_2 h_3 h_4
    refine z_if_eqB F (tgt := 19) dX0_change_12 (by decide) (fun c_12 => ?_) (fun c_12 => ?_)
    · refine z_lconst F 0 dX0_change_19 rfl ?_
      refine z_lastN F rfl (Nat.le_of_ble_eq_true rfl) (by omega) dX0_change_20 ?_
      refine z_weq (w' := [_, _, _, _, _, _, _, _, _, _, _, _, _, _, _, _, _, _, _, _, _, _, _]) rfl ?_
      refine z_goto F (tgt := 28) dX0_change_21 (by decide) ?_
      refine z_iconst F (nI 0) dX0_change_28 rfl ?_
      exact z_iret F E rfl dX0_change_29 (by omega) (by omega) (Or.inl ⟨_, _, ⟨i', j', h_1, h_2, h_3, h_4, rfl, rfl⟩, rfl, (by first | (rw [cvB, c_12]; rfl) | cases c_12 | rfl)⟩)
    · refine z_lconst F 1 dX0_change_15 rfl ?_
      refine z_goto F (tgt := 20) dX0_change_16 (by decide) ?_
      refine z_lastN F rfl (Nat.le_of_ble_eq_true rfl) (by omega) dX0_change_20 ?_
      refine z_weq (w' := [_, _, _, _, _, _, _, _, _, _, _, _, _, _, _, _, _, _, _, _, _, _, _]) rfl ?_
      refine z_goto F (tgt := 28) dX0_change_21 (by decide) ?_
      refine z_iconst F (nI 0) dX0_change_28 rfl ?_
      exact z_iret F E rfl dX0_change_29 (by omega) (by omega) (Or.inl ⟨_, _, ⟨i', j', h_1, h_2, h_3, h_4, rfl, rfl⟩, rfl, (by first | (rw [cvB, c_12]; rfl) | cases c_12 | rfl)⟩)
  have hH : ∀ (k0 n0 : Nat), k0 ≤ 3 → n0 ≤ 112 → (∀ i' j', i' < j' → j' < (prs n f).length → x = nI i' → y = nI j' → False) → Z X [some (zr 1 0), some (zi (nI j)), some (zi x), some (zi y), some (zi (bI cr)), some (zr 22 0), none] [zr 23 0] (xH P t fp ++ [zAl 1 1 o_]) k0 n0 24 := by
    intro k0 n0  hk0 hn0 h_5
    refine z_astore F dX0_change_24 (Nat.le_of_ble_eq_true rfl) ?_
    refine z_leq (L' := [_, _, _, _, _, _, _]) rfl ?_
    refine z_iconst F (nI 1) dX0_change_26 rfl ?_
    exact z_iret F E rfl dX0_change_27 (by omega) (by omega) (Or.inr ⟨_, _, ⟨rfl, h_5, rfl⟩, rfl, rfl⟩)
  refine z_aload F dX0_change_0 rfl ?_
  refine z_iconst F (nI 0) dX0_change_2 rfl ?_
  refine z_aload_n F dX0_change_3 rfl ?_
  refine z_iload_n F dX0_change_4 rfl ?_
  refine z_iload_n F dX0_change_5 rfl ?_
  refine z_iload_n F dX0_change_6 rfl ?_
  refine z_iload F dX0_change_7 rfl ?_
  refine z_callV F (c_pchange P t fp j n d f x y cr hj h hP) 4 rfl (lw_V q918 q919 q920 q109 q921) (by decide +kernel) ⟨Nat.le_of_ble_eq_true rfl, Nat.le_of_ble_eq_true rfl⟩ ⟨by omega, by omega⟩ [0, 1, 2, 3, 4, 5, 6, 7, 8, 9, 10, 11, 12, 13, 14, 15, 16, 17, 18, 19, 20, 21] 23 ⟨rfl, rfl, rfl, ⟨Or.inr (congrArg some (zrnP rfl).symm), Or.inr rfl, Or.inl rfl, Or.inl rfl, Or.inl rfl, Or.inl rfl, Or.inl rfl, Or.inl rfl, Or.inl rfl, Or.inl rfl, Or.inl rfl, Or.inl rfl, Or.inl rfl, Or.inl rfl, Or.inl rfl, Or.inl rfl, Or.inl rfl, Or.inl rfl, Or.inl rfl, Or.inl rfl, Or.inl rfl, Or.inl rfl, trivial⟩⟩ (fun _ => rfl) (Nat.le_of_ble_eq_true rfl) ⟨⟨Or.inl rfl, Or.inl rfl, Or.inr trivial, Or.inr trivial, Or.inr trivial, Or.inr trivial, Or.inr trivial, Or.inr trivial, Or.inr trivial, Or.inr trivial, Or.inr trivial, Or.inr trivial, Or.inr trivial, Or.inr trivial, Or.inr trivial, Or.inr trivial, Or.inr trivial, Or.inr trivial, Or.inr trivial, Or.inr trivial, Or.inr trivial, Or.inr trivial, Or.inr trivial, trivial⟩, rfl, rfl, rfl, Nat.le_of_ble_eq_true rfl⟩ rfl zC1 rfl rfl dX0_change_9 (fun r_9 w_9 hp => ?_) (fun E_ w_ hx => by obtain ⟨rfl, h_5, rfl⟩ := hx; exact zx_catch F hT [] ⟨0, 21, 24, 13⟩ [] rfl (fun _ h => nomatch h) (by decide) (by decide) lw_nse (z_weq (w' := zPl (pR _) _ :: _) (congrArg (fun z => z :: _) (zrnP rfl)) (hH _ _  (by omega) (by omega) h_5)))
  rcases hp with ⟨i', j', h_1, h_2, h_3, h_4, rfl, rfl⟩
  · refine z_weq (w' := zPl (pR _) _ :: _) (congrArg (fun z => z :: _) (zrnP rfl)) ?_; exact K0 i' j' h_1 h_2 h_3 h_4
theorem cw_pcool (Dg : va_G) (P : zPt) (t : Nat) (fp sn0 g0 sm0 : Int32) (D : Nat → Int32) (j n d : Nat) (f : Nat → Int32) (v0 : Int32) (T H : Nat) (hj : j < 8) (h : nok n d f) (hP : P j = some (nI n, nI d, f)) (hT_ : T ≤ 500) (hH : H ≤ 10000) (o_ : Nat → Int64) : zCtrWD Dg yX0_cool cX0_cool 7 (some .int) [(0, 14, 17, 13), (0, 14, 21, 22)] 9 5 130 [zr 1 0, zi (nI j), zi v0, zi (nI T), zi (nI H), zr 22 0] ((xFl P t fp sn0 g0 sm0 D) ++ [zAl 1 1 o_]) (fun r_ w_ => (∃ v_ w1_, (fun r w => r = some (zi (nI (coR n f v0 T H).1)) ∧ ∃ sn g sm D, w = xFl (zput P j (some (nI n, nI d, (coR n f v0 T H).2))) t fp sn g sm D) (some v_) w1_ ∧ r_ = some (zi (nI 0)) ∧ w_ = w1_ ++ [zAl 1 1 (vp_updL o_ 0 (cvV v_))])) zNx := by
  refine z_startWD (by decide) [some (zr 1 0), some (zi (nI j)), some (zi v0), some (zi (nI T)), some (zi (nI H)), some (zr 22 0), none] rfl (fun _ => Nat.le_of_ble_eq_true rfl) (fun _ => rfl) (fun X hD F E hT hin => ?_)
  subst hD
  have K0 : ∀ sn g sm D, Z X [some (zr 1 0), some (zi (nI j)), some (zi v0), some (zi (nI T)), some (zi (nI H)), some (zr 22 0), none] [zi (nI (coR n f v0 T H).1), zi (nI 0), zr 22 0] (xFl (zput P j (some (nI n, nI d, (coR n f v0 T H).2))) t fp sn g sm D ++ [zAl 1 1 o_]) 5 130 12 := by
    intro sn g sm D 
    refine z_i2l F dX0_cool_12 ?_
    refine z_lastN F rfl (Nat.le_of_ble_eq_true rfl) (by omega) dX0_cool_13 ?_
    refine z_weq (w' := [_, _, _, _, _, _, _, _, _, _, _, _, _, _, _, _, _, _, _, _, _, _, _]) rfl ?_
    refine z_goto F (tgt := 25) dX0_cool_14 (by decide) ?_
    refine z_iconst F (nI 0) dX0_cool_25 rfl ?_
    exact z_iret F E rfl dX0_cool_26 (by omega) (by omega) (⟨_, _, ⟨rfl, sn, g, sm, D, rfl⟩, rfl, rfl⟩)
  refine z_aload F dX0_cool_0 rfl ?_
  refine z_iconst F (nI 0) dX0_cool_2 rfl ?_
  refine z_aload_n F dX0_cool_3 rfl ?_
  refine z_iload_n F dX0_cool_4 rfl ?_
  refine z_iload_n F dX0_cool_5 rfl ?_
  refine z_iload_n F dX0_cool_6 rfl ?_
  refine z_iload F dX0_cool_7 rfl ?_
  refine z_callV F (c_pcool P t fp sn0 g0 sm0 D j n d f v0 T H hj h hP hT_ hH) 4 rfl (lw_V q942 q943 q944 q109 q945) (by decide +kernel) ⟨Nat.le_of_ble_eq_true rfl, Nat.le_of_ble_eq_true rfl⟩ ⟨by omega, by omega⟩ [0, 1, 2, 3, 4, 5, 6, 7, 8, 9, 10, 11, 12, 13, 14, 15, 16, 17, 18, 19, 20, 21] 23 ⟨rfl, rfl, rfl, ⟨Or.inr (congrArg some (zrnP rfl).symm), Or.inr rfl, Or.inl rfl, Or.inr rfl, Or.inr rfl, Or.inl rfl, Or.inl rfl, Or.inl rfl, Or.inl rfl, Or.inl rfl, Or.inl rfl, Or.inl rfl, Or.inl rfl, Or.inl rfl, Or.inl rfl, Or.inl rfl, Or.inl rfl, Or.inl rfl, Or.inl rfl, Or.inl rfl, Or.inl rfl, Or.inl rfl, trivial⟩⟩ (fun _ => rfl) (Nat.le_of_ble_eq_true rfl) ⟨⟨Or.inl rfl, Or.inl rfl, Or.inr trivial, Or.inl rfl, Or.inl rfl, Or.inr trivial, Or.inr trivial, Or.inr trivial, Or.inr trivial, Or.inr trivial, Or.inr trivial, Or.inr trivial, Or.inr trivial, Or.inr trivial, Or.inr trivial, Or.inr trivial, Or.inr trivial, Or.inr trivial, Or.inr trivial, Or.inr trivial, Or.inr trivial, Or.inr trivial, Or.inr trivial, trivial⟩, rfl, rfl, rfl, Nat.le_of_ble_eq_true rfl⟩ rfl zC1 rfl rfl dX0_cool_9 (fun r_9 w_9 hp => ?_) (fun _ _ h => h.elim)
  rcases hp with ⟨rfl, sn, g, sm, D, rfl⟩
  · refine z_weq (w' := zPl (pR _) _ :: _) (congrArg (fun z => z :: _) (zrnP rfl)) ?_; exact K0 sn g sm D
theorem cw_pcool_bad (Dg : va_G) (P : zPt) (t : Nat) (fp : Int32) (j n d : Nat) (f : Nat → Int32) (v0 x y : Int32) (hj : j < 8) (hP : P j = some (nI n, nI d, f)) (hx : (inB x (nI 0) (nI 500) && inB y (nI 0) (nI 10000)) = false) (o_ : Nat → Int64) : zCtrWD Dg yX0_cool cX0_cool 7 (some .int) [(0, 14, 17, 13), (0, 14, 21, 22)] 9 5 130 [zr 1 0, zi (nI j), zi v0, zi x, zi y, zr 22 0] ((xH P t fp) ++ [zAl 1 1 o_]) (fun r_ w_ => (∃ v_ w1_, (fun r w => False) (some v_) w1_ ∧ r_ = some (zi (nI 0)) ∧ w_ = w1_ ++ [zAl 1 1 (vp_updL o_ 0 (cvV v_))]) ∨ (∃ E_ w1_, (fun E w => E = eIAE ∧ True ∧ w = xH P t fp) E_ w1_ ∧ r_ = some (zi (nI 2)) ∧ w_ = w1_ ++ [zAl 1 1 o_])) zNx := by
  refine z_startWD (by decide) [some (zr 1 0), some (zi (nI j)), some (zi v0), some (zi x), some (zi y), some (zr 22 0), none] rfl (fun _ => Nat.le_of_ble_eq_true rfl) (fun _ => rfl) (fun X hD F E hT hin => ?_)
  subst hD
  have hH : ∀ (k0 n0 : Nat), k0 ≤ 5 → n0 ≤ 130 → (True) → Z X [some (zr 1 0), some (zi (nI j)), some (zi v0), some (zi x), some (zi y), some (zr 22 0), none] [zr 23 0] (xH P t fp ++ [zAl 1 1 o_]) k0 n0 21 := by
    intro k0 n0  hk0 hn0 h_2
    refine z_astore F dX0_cool_21 (Nat.le_of_ble_eq_true rfl) ?_
    refine z_leq (L' := [_, _, _, _, _, _, _]) rfl ?_
    refine z_iconst F (nI 2) dX0_cool_23 rfl ?_
    exact z_iret F E rfl dX0_cool_24 (by omega) (by omega) (Or.inr ⟨_, _, ⟨rfl, h_2, rfl⟩, rfl, rfl⟩)
  refine z_aload F dX0_cool_0 rfl ?_
  refine z_iconst F (nI 0) dX0_cool_2 rfl ?_
  refine z_aload_n F dX0_cool_3 rfl ?_
  refine z_iload_n F dX0_cool_4 rfl ?_
  refine z_iload_n F dX0_cool_5 rfl ?_
  refine z_iload_n F dX0_cool_6 rfl ?_
  refine z_iload F dX0_cool_7 rfl ?_
  refine z_callV F (c_pcool_bad P t fp j n d f v0 x y hj hP hx) 4 rfl (lw_V q942 q943 q944 q109 q945) (by decide +kernel) ⟨Nat.le_of_ble_eq_true rfl, Nat.le_of_ble_eq_true rfl⟩ ⟨by omega, by omega⟩ [0, 1, 2, 3, 4, 5, 6, 7, 8, 9, 10, 11, 12, 13, 14, 15, 16, 17, 18, 19, 20, 21] 23 ⟨rfl, rfl, rfl, ⟨Or.inr (congrArg some (zrnP rfl).symm), Or.inr rfl, Or.inl rfl, Or.inl rfl, Or.inl rfl, Or.inl rfl, Or.inl rfl, Or.inl rfl, Or.inl rfl, Or.inl rfl, Or.inl rfl, Or.inl rfl, Or.inl rfl, Or.inl rfl, Or.inl rfl, Or.inl rfl, Or.inl rfl, Or.inl rfl, Or.inl rfl, Or.inl rfl, Or.inl rfl, Or.inl rfl, trivial⟩⟩ (fun _ => rfl) (Nat.le_of_ble_eq_true rfl) ⟨⟨Or.inl rfl, Or.inl rfl, Or.inr trivial, Or.inr trivial, Or.inr trivial, Or.inr trivial, Or.inr trivial, Or.inr trivial, Or.inr trivial, Or.inr trivial, Or.inr trivial, Or.inr trivial, Or.inr trivial, Or.inr trivial, Or.inr trivial, Or.inr trivial, Or.inr trivial, Or.inr trivial, Or.inr trivial, Or.inr trivial, Or.inr trivial, Or.inr trivial, Or.inr trivial, trivial⟩, rfl, rfl, rfl, Nat.le_of_ble_eq_true rfl⟩ rfl zC1 rfl rfl dX0_cool_9 (fun r_9 w_9 hp => ?_) (fun E_ w_ hx => by obtain ⟨rfl, h_2, rfl⟩ := hx; exact zx_catch2 F hT ⟨0, 14, 17, 13⟩ ⟨0, 14, 21, 22⟩ rfl (by decide) (by decide) (by decide) lw_nse lw_iae (z_weq (w' := zPl (pR _) _ :: _) (congrArg (fun z => z :: _) (zrnP rfl)) (hH _ _  (by omega) (by omega) h_2)))
  exact hp.elim
theorem cw_pmissing (Dg : va_G) (P : zPt) (t : Nat) (fp sn0 g0 sm0 : Int32) (D : Nat → Int32) (j n d : Nat) (f : Nat → Int32) (hj : j < 8) (h : nok n d f) (hP : P j = some (nI n, nI d, f)) (o_ : Nat → Int64) : zCtrWD Dg yX0_missing cX0_missing 4 (some .int) [(0, 9, 12, 13)] 9 3 18 [zr 1 0, zi (nI j), zr 22 0] ((xFl P t fp sn0 g0 sm0 D) ++ [zAl 1 1 o_]) (fun r_ w_ => (∃ v_ w1_, (fun r w => r = some (zi (msI (msa n f n))) ∧ ∃ sn g sm D, w = xFl P t fp sn g sm D) (some v_) w1_ ∧ r_ = some (zi (nI 0)) ∧ w_ = w1_ ++ [zAl 1 1 (vp_updL o_ 0 (cvV v_))])) zNx := by
  refine z_startWD (by decide) [some (zr 1 0), some (zi (nI j)), some (zr 22 0), none] rfl (fun _ => Nat.le_of_ble_eq_true rfl) (fun _ => rfl) (fun X hD F E hT hin => ?_)
  subst hD
  have K0 : ∀ sn g sm D, Z X [some (zr 1 0), some (zi (nI j)), some (zr 22 0), none] [zi (msI (msa n f n)), zi (nI 0), zr 22 0] (xFl P t fp sn g sm D ++ [zAl 1 1 o_]) 3 18 7 := by
    intro sn g sm D 
    refine z_i2l F dX0_missing_7 ?_
    refine z_lastN F rfl (Nat.le_of_ble_eq_true rfl) (by omega) dX0_missing_8 ?_
    refine z_weq (w' := [_, _, _, _, _, _, _, _, _, _, _, _, _, _, _, _, _, _, _, _, _, _, _]) rfl ?_
    refine z_goto F (tgt := 15) dX0_missing_9 (by decide) ?_
    refine z_iconst F (nI 0) dX0_missing_15 rfl ?_
    exact z_iret F E rfl dX0_missing_16 (by omega) (by omega) (⟨_, _, ⟨rfl, sn, g, sm, D, rfl⟩, rfl, rfl⟩)
  refine z_aload_n F dX0_missing_0 rfl ?_
  refine z_iconst F (nI 0) dX0_missing_1 rfl ?_
  refine z_aload_n F dX0_missing_2 rfl ?_
  refine z_iload_n F dX0_missing_3 rfl ?_
  refine z_callV F (c_pmissing P t fp sn0 g0 sm0 D j n d f hj h hP) 1 rfl (lw_V q1462 q1463 q1464 q109 q1465) (by decide +kernel) ⟨Nat.le_of_ble_eq_true rfl, Nat.le_of_ble_eq_true rfl⟩ ⟨by omega, by omega⟩ [0, 1, 2, 3, 4, 5, 6, 7, 8, 9, 10, 11, 12, 13, 14, 15, 16, 17, 18, 19, 20, 21] 23 ⟨rfl, rfl, rfl, ⟨Or.inr (congrArg some (zrnP rfl).symm), Or.inr rfl, Or.inl rfl, Or.inr rfl, Or.inr rfl, Or.inl rfl, Or.inl rfl, Or.inl rfl, Or.inl rfl, Or.inl rfl, Or.inl rfl, Or.inl rfl, Or.inl rfl, Or.inl rfl, Or.inl rfl, Or.inl rfl, Or.inl rfl, Or.inl rfl, Or.inl rfl, Or.inl rfl, Or.inl rfl, Or.inl rfl, trivial⟩⟩ (fun _ => rfl) (Nat.le_of_ble_eq_true rfl) ⟨⟨Or.inl rfl, Or.inl rfl, Or.inr trivial, Or.inl rfl, Or.inl rfl, Or.inr trivial, Or.inr trivial, Or.inr trivial, Or.inr trivial, Or.inr trivial, Or.inr trivial, Or.inr trivial, Or.inr trivial, Or.inr trivial, Or.inr trivial, Or.inr trivial, Or.inr trivial, Or.inr trivial, Or.inr trivial, Or.inr trivial, Or.inr trivial, Or.inr trivial, Or.inr trivial, trivial⟩, rfl, rfl, rfl, Nat.le_of_ble_eq_true rfl⟩ rfl zC1 rfl rfl dX0_missing_4 (fun r_4 w_4 hp => ?_) (fun _ _ h => h.elim)
  rcases hp with ⟨rfl, sn, g, sm, D, rfl⟩
  · refine z_weq (w' := zPl (pR _) _ :: _) (congrArg (fun z => z :: _) (zrnP rfl)) ?_; exact K0 sn g sm D
theorem cw_phalves (Dg : va_G) (P : zPt) (t : Nat) (fp : Int32) (j n d : Nat) (f : Nat → Int32) (hj : j < 8) (h : nok n d f) (hn : n ≤ 14) (hP : P j = some (nI n, nI d, f)) (o_ : Nat → Int64) : zCtrWD Dg yX0_halves cX0_halves 4 (some .int) [(0, 9, 12, 13)] 9 3 18 [zr 1 0, zi (nI j), zr 22 0] ((xH P t fp) ++ [zAl 1 1 o_]) (fun r_ w_ => (∃ v_ w1_, (fun r w => r = some (zi (dI (hva n f (2 ^ n)))) ∧ w = xH P t fp) (some v_) w1_ ∧ r_ = some (zi (nI 0)) ∧ w_ = w1_ ++ [zAl 1 1 (vp_updL o_ 0 (cvV v_))])) zNx := by
  refine z_startWD (by decide) [some (zr 1 0), some (zi (nI j)), some (zr 22 0), none] rfl (fun _ => Nat.le_of_ble_eq_true rfl) (fun _ => rfl) (fun X hD F E hT hin => ?_)
  subst hD
  have K0 : ∀ (_ : True), Z X [some (zr 1 0), some (zi (nI j)), some (zr 22 0), none] [zi (dI (hva n f (2 ^ n))), zi (nI 0), zr 22 0] (xH P t fp ++ [zAl 1 1 o_]) 3 18 7 := by
    intro _ 
    refine z_i2l F dX0_halves_7 ?_
    refine z_lastN F rfl (Nat.le_of_ble_eq_true rfl) (by omega) dX0_halves_8 ?_
    refine z_weq (w' := [_, _, _, _, _, _, _, _, _, _, _, _, _, _, _, _, _, _, _, _, _, _, _]) rfl ?_
    refine z_goto F (tgt := 15) dX0_halves_9 (by decide) ?_
    refine z_iconst F (nI 0) dX0_halves_15 rfl ?_
    exact z_iret F E rfl dX0_halves_16 (by omega) (by omega) (⟨_, _, ⟨rfl, rfl⟩, rfl, rfl⟩)
  refine z_aload_n F dX0_halves_0 rfl ?_
  refine z_iconst F (nI 0) dX0_halves_1 rfl ?_
  refine z_aload_n F dX0_halves_2 rfl ?_
  refine z_iload_n F dX0_halves_3 rfl ?_
  refine z_callV F (c_phalves P t fp j n d f hj h hn hP) 1 rfl (lw_V q1214 q1215 q1216 q109 q1217) (by decide +kernel) ⟨Nat.le_of_ble_eq_true rfl, Nat.le_of_ble_eq_true rfl⟩ ⟨by omega, by omega⟩ [0, 1, 2, 3, 4, 5, 6, 7, 8, 9, 10, 11, 12, 13, 14, 15, 16, 17, 18, 19, 20, 21] 23 ⟨rfl, rfl, rfl, ⟨Or.inr (congrArg some (zrnP rfl).symm), Or.inr rfl, Or.inl rfl, Or.inl rfl, Or.inl rfl, Or.inl rfl, Or.inl rfl, Or.inl rfl, Or.inl rfl, Or.inl rfl, Or.inl rfl, Or.inl rfl, Or.inl rfl, Or.inl rfl, Or.inl rfl, Or.inl rfl, Or.inl rfl, Or.inl rfl, Or.inl rfl, Or.inl rfl, Or.inl rfl, Or.inl rfl, trivial⟩⟩ (fun _ => rfl) (Nat.le_of_ble_eq_true rfl) ⟨⟨Or.inl rfl, Or.inl rfl, Or.inr trivial, Or.inr trivial, Or.inr trivial, Or.inr trivial, Or.inr trivial, Or.inr trivial, Or.inr trivial, Or.inr trivial, Or.inr trivial, Or.inr trivial, Or.inr trivial, Or.inr trivial, Or.inr trivial, Or.inr trivial, Or.inr trivial, Or.inr trivial, Or.inr trivial, Or.inr trivial, Or.inr trivial, Or.inr trivial, Or.inr trivial, trivial⟩, rfl, rfl, rfl, Nat.le_of_ble_eq_true rfl⟩ rfl zC1 rfl rfl dX0_halves_4 (fun r_4 w_4 hp => ?_) (fun _ _ h => h.elim)
  rcases hp with ⟨rfl, rfl⟩
  · refine z_weq (w' := zPl (pR _) _ :: _) (congrArg (fun z => z :: _) (zrnP rfl)) ?_; exact K0 trivial
theorem cw_phalves_big (Dg : va_G) (P : zPt) (t : Nat) (fp : Int32) (j n d : Nat) (f : Nat → Int32) (hj : j < 8) (h : nok n d f) (hn : 14 < n) (hP : P j = some (nI n, nI d, f)) (o_ : Nat → Int64) : zCtrWD Dg yX0_halves cX0_halves 4 (some .int) [(0, 9, 12, 13)] 9 3 18 [zr 1 0, zi (nI j), zr 22 0] ((xH P t fp) ++ [zAl 1 1 o_]) (fun r_ w_ => (∃ v_ w1_, (fun r w => r = some (zi (-1)) ∧ w = xH P t fp) (some v_) w1_ ∧ r_ = some (zi (nI 0)) ∧ w_ = w1_ ++ [zAl 1 1 (vp_updL o_ 0 (cvV v_))])) zNx := by
  refine z_startWD (by decide) [some (zr 1 0), some (zi (nI j)), some (zr 22 0), none] rfl (fun _ => Nat.le_of_ble_eq_true rfl) (fun _ => rfl) (fun X hD F E hT hin => ?_)
  subst hD
  have K0 : ∀ (_ : True), Z X [some (zr 1 0), some (zi (nI j)), some (zr 22 0), none] [zi (-1), zi (nI 0), zr 22 0] (xH P t fp ++ [zAl 1 1 o_]) 3 18 7 := by
    intro _ 
    refine z_i2l F dX0_halves_7 ?_
    refine z_lastN F rfl (Nat.le_of_ble_eq_true rfl) (by omega) dX0_halves_8 ?_
    refine z_weq (w' := [_, _, _, _, _, _, _, _, _, _, _, _, _, _, _, _, _, _, _, _, _, _, _]) rfl ?_
    refine z_goto F (tgt := 15) dX0_halves_9 (by decide) ?_
    refine z_iconst F (nI 0) dX0_halves_15 rfl ?_
    exact z_iret F E rfl dX0_halves_16 (by omega) (by omega) (⟨_, _, ⟨rfl, rfl⟩, rfl, rfl⟩)
  refine z_aload_n F dX0_halves_0 rfl ?_
  refine z_iconst F (nI 0) dX0_halves_1 rfl ?_
  refine z_aload_n F dX0_halves_2 rfl ?_
  refine z_iload_n F dX0_halves_3 rfl ?_
  refine z_callV F (c_phalves_big P t fp j n d f hj h hn hP) 1 rfl (lw_V q1214 q1215 q1216 q109 q1217) (by decide +kernel) ⟨Nat.le_of_ble_eq_true rfl, Nat.le_of_ble_eq_true rfl⟩ ⟨by omega, by omega⟩ [0, 1, 2, 3, 4, 5, 6, 7, 8, 9, 10, 11, 12, 13, 14, 15, 16, 17, 18, 19, 20, 21] 23 ⟨rfl, rfl, rfl, ⟨Or.inr (congrArg some (zrnP rfl).symm), Or.inr rfl, Or.inl rfl, Or.inl rfl, Or.inl rfl, Or.inl rfl, Or.inl rfl, Or.inl rfl, Or.inl rfl, Or.inl rfl, Or.inl rfl, Or.inl rfl, Or.inl rfl, Or.inl rfl, Or.inl rfl, Or.inl rfl, Or.inl rfl, Or.inl rfl, Or.inl rfl, Or.inl rfl, Or.inl rfl, Or.inl rfl, trivial⟩⟩ (fun _ => rfl) (Nat.le_of_ble_eq_true rfl) ⟨⟨Or.inl rfl, Or.inl rfl, Or.inr trivial, Or.inr trivial, Or.inr trivial, Or.inr trivial, Or.inr trivial, Or.inr trivial, Or.inr trivial, Or.inr trivial, Or.inr trivial, Or.inr trivial, Or.inr trivial, Or.inr trivial, Or.inr trivial, Or.inr trivial, Or.inr trivial, Or.inr trivial, Or.inr trivial, Or.inr trivial, Or.inr trivial, Or.inr trivial, Or.inr trivial, trivial⟩, rfl, rfl, rfl, Nat.le_of_ble_eq_true rfl⟩ rfl zC1 rfl rfl dX0_halves_4 (fun r_4 w_4 hp => ?_) (fun _ _ h => h.elim)
  rcases hp with ⟨rfl, rfl⟩
  · refine z_weq (w' := zPl (pR _) _ :: _) (congrArg (fun z => z :: _) (zrnP rfl)) ?_; exact K0 trivial
theorem cw_pbound (Dg : va_G) (P : zPt) (t : Nat) (fp : Int32) (d k : Nat) (hd : 1 ≤ d) (hd8 : d ≤ 8) (hk : k ≤ 24) (o_ : Nat → Int64) : zCtrWD Dg yX0_bound cX0_bound 5 (some .int) [(0, 10, 13, 22)] 9 3 18 [zr 1 0, zi (nI d), zi (nI k), zr 22 0] ([zH, xO t fp, zH, zH, zH, zH, zH, zH, zH, zH, zH, zH, zH, zH, zH, zH, zH, zH, zH, zH, zH, zH] ++ [zAl 1 1 o_]) (fun r_ w_ => (∃ v_ w1_, (fun r w => r = some (zi (bnd d k)) ∧ w = [zH, xO t fp, zH, zH, zH, zH, zH, zH, zH, zH, zH, zH, zH, zH, zH, zH, zH, zH, zH, zH, zH, zH]) (some v_) w1_ ∧ r_ = some (zi (nI 0)) ∧ w_ = w1_ ++ [zAl 1 1 (vp_updL o_ 0 (cvV v_))])) zNx := by
  refine z_startWD (by decide) [some (zr 1 0), some (zi (nI d)), some (zi (nI k)), some (zr 22 0), none] rfl (fun _ => Nat.le_of_ble_eq_true rfl) (fun _ => rfl) (fun X hD F E hT hin => ?_)
  subst hD
  have K0 : ∀ (_ : True), Z X [some (zr 1 0), some (zi (nI d)), some (zi (nI k)), some (zr 22 0), none] [zi (bnd d k), zi (nI 0), zr 22 0] ([zH, xO t fp, zH, zH, zH, zH, zH, zH, zH, zH, zH, zH, zH, zH, zH, zH, zH, zH, zH, zH, zH, zH] ++ [zAl 1 1 o_]) 3 18 8 := by
    intro _ 
    refine z_i2l F dX0_bound_8 ?_
    refine z_lastN F rfl (Nat.le_of_ble_eq_true rfl) (by omega) dX0_bound_9 ?_
    refine z_weq (w' := [_, _, _, _, _, _, _, _, _, _, _, _, _, _, _, _, _, _, _, _, _, _, _]) rfl ?_
    refine z_goto F (tgt := 17) dX0_bound_10 (by decide) ?_
    refine z_iconst F (nI 0) dX0_bound_17 rfl ?_
    exact z_iret F E rfl dX0_bound_18 (by omega) (by omega) (⟨_, _, ⟨rfl, rfl⟩, rfl, rfl⟩)
  refine z_aload_n F dX0_bound_0 rfl ?_
  refine z_iconst F (nI 0) dX0_bound_1 rfl ?_
  refine z_aload_n F dX0_bound_2 rfl ?_
  refine z_iload_n F dX0_bound_3 rfl ?_
  refine z_iload_n F dX0_bound_4 rfl ?_
  refine z_callVH F (c_pbound P t fp d k hd hd8 hk) 2 rfl (lw_V q1056 q1057 q1058 q109 q1059) (by decide +kernel) ⟨Nat.le_of_ble_eq_true rfl, Nat.le_of_ble_eq_true rfl⟩ ⟨by omega, by omega⟩ [0, 1] 23 ⟨rfl, rfl, rfl, ⟨Or.inl rfl, Or.inl rfl, trivial⟩⟩ (fun h => nomatch h) (Nat.le_of_ble_eq_true rfl) ⟨⟨Or.inr trivial, Or.inr rfl, Or.inr trivial, Or.inr trivial, Or.inr trivial, Or.inr trivial, Or.inr trivial, Or.inr trivial, Or.inr trivial, Or.inr trivial, Or.inr trivial, Or.inr trivial, Or.inr trivial, Or.inr trivial, Or.inr trivial, Or.inr trivial, Or.inr trivial, Or.inr trivial, Or.inr trivial, Or.inr trivial, Or.inr trivial, Or.inr trivial, Or.inr trivial, trivial⟩, rfl, rfl, rfl, Nat.le_of_ble_eq_true rfl⟩ rfl zC1 rfl rfl dX0_bound_5 (fun r_5 w_5 hp => ?_) (fun _ _ h => h.elim)
  rcases hp with ⟨rfl, rfl⟩
  · exact K0 trivial
theorem cw_pbound_bad (Dg : va_G) (x y : Int32) (hx : (inB x (nI 1) (nI 8) && inB y (nI 0) (nI 24)) = false) (t : Nat) (fp : Int32) (o_ : Nat → Int64) : zCtrWD Dg yX0_bound cX0_bound 5 (some .int) [(0, 10, 13, 22)] 9 3 18 [zr 1 0, zi x, zi y, zr 22 0] ([zH, xO t fp, zH, zH, zH, zH, zH, zH, zH, zH, zH, zH, zH, zH, zH, zH, zH, zH, zH, zH, zH, zH] ++ [zAl 1 1 o_]) (fun r_ w_ => (∃ v_ w1_, (fun r w => False) (some v_) w1_ ∧ r_ = some (zi (nI 0)) ∧ w_ = w1_ ++ [zAl 1 1 (vp_updL o_ 0 (cvV v_))]) ∨ (∃ E_ w1_, (fun E w => E = eIAE ∧ True ∧ w = [zH, xO t fp, zH, zH, zH, zH, zH, zH, zH, zH, zH, zH, zH, zH, zH, zH, zH, zH, zH, zH, zH, zH]) E_ w1_ ∧ r_ = some (zi (nI 1)) ∧ w_ = w1_ ++ [zAl 1 1 o_])) zNx := by
  refine z_startWD (by decide) [some (zr 1 0), some (zi x), some (zi y), some (zr 22 0), none] rfl (fun _ => Nat.le_of_ble_eq_true rfl) (fun _ => rfl) (fun X hD F E hT hin => ?_)
  subst hD
  have hH : ∀ (k0 n0 : Nat), k0 ≤ 3 → n0 ≤ 18 → (True) → Z X [some (zr 1 0), some (zi x), some (zi y), some (zr 22 0), none] [zr 23 0] ([zH, xO t fp, zH, zH, zH, zH, zH, zH, zH, zH, zH, zH, zH, zH, zH, zH, zH, zH, zH, zH, zH, zH] ++ [zAl 1 1 o_]) k0 n0 13 := by
    intro k0 n0  hk0 hn0 h_2
    refine z_astore F dX0_bound_13 (Nat.le_of_ble_eq_true rfl) ?_
    refine z_leq (L' := [_, _, _, _, _]) rfl ?_
    refine z_iconst F (nI 1) dX0_bound_15 rfl ?_
    exact z_iret F E rfl dX0_bound_16 (by omega) (by omega) (Or.inr ⟨_, _, ⟨rfl, h_2, rfl⟩, rfl, rfl⟩)
  refine z_aload_n F dX0_bound_0 rfl ?_
  refine z_iconst F (nI 0) dX0_bound_1 rfl ?_
  refine z_aload_n F dX0_bound_2 rfl ?_
  refine z_iload_n F dX0_bound_3 rfl ?_
  refine z_iload_n F dX0_bound_4 rfl ?_
  refine z_callVH F (c_pbound_bad x y hx) 2 rfl (lw_V q1056 q1057 q1058 q109 q1059) (by decide +kernel) ⟨Nat.le_of_ble_eq_true rfl, Nat.le_of_ble_eq_true rfl⟩ ⟨by omega, by omega⟩ [0, 1] 23 ⟨rfl, rfl, rfl, ⟨Or.inl rfl, Or.inl rfl, trivial⟩⟩ (fun h => nomatch h) (Nat.le_of_ble_eq_true rfl) ⟨⟨Or.inr trivial, Or.inr rfl, Or.inr trivial, Or.inr trivial, Or.inr trivial, Or.inr trivial, Or.inr trivial, Or.inr trivial, Or.inr trivial, Or.inr trivial, Or.inr trivial, Or.inr trivial, Or.inr trivial, Or.inr trivial, Or.inr trivial, Or.inr trivial, Or.inr trivial, Or.inr trivial, Or.inr trivial, Or.inr trivial, Or.inr trivial, Or.inr trivial, Or.inr trivial, trivial⟩, rfl, rfl, rfl, Nat.le_of_ble_eq_true rfl⟩ rfl zC1 rfl rfl dX0_bound_5 (fun r_5 w_5 hp => ?_) (fun E_ w_ hx => by obtain ⟨rfl, h_2, rfl⟩ := hx; exact zx_catch F hT [] ⟨0, 10, 13, 22⟩ [] rfl (fun _ h => nomatch h) (by decide) (by decide) lw_iae (hH _ _  (by omega) (by omega) h_2))
  exact hp.elim
theorem cw_pfound (Dg : va_G) (t : Nat) (fp : Int32) (told : Bool) (pr mn kd fw ls nn : Int32) (x : Int32) (o_ : Nat → Int64) : zCtrWD Dg yX0_found cX0_found 4 (some .int) [(0, 9, 12, 13)] 8 1 6 [zr 1 0, zi x, zr 22 0] ([zH, xO t fp, zH, zH, zH, zH, zH, zH, zH, zH, zH, eSm told pr mn kd fw ls nn, zH, zH, zH, zH, zH, zH, zH, zH, zH, zH] ++ [zAl 1 1 o_]) (fun r_ w_ => (∃ v_ w1_, (fun r w => ∃ x', x' < 4 ∧ x = nI x' ∧ told = true ∧ r = some (zi (fdV x' mn kd fw ls)) ∧ w = [zH, xO t fp, zH, zH, zH, zH, zH, zH, zH, zH, zH, eSm told pr mn kd fw ls nn, zH, zH, zH, zH, zH, zH, zH, zH, zH, zH]) (some v_) w1_ ∧ r_ = some (zi (nI 0)) ∧ w_ = w1_ ++ [zAl 1 1 (vp_updL o_ 0 (cvV v_))]) ∨ (∃ E_ w1_, (fun E w => E = eNSE ∧ (told && inB x (nI 0) (nI 3)) = false ∧ w = [zH, xO t fp, zH, zH, zH, zH, zH, zH, zH, zH, zH, eSm told pr mn kd fw ls nn, zH, zH, zH, zH, zH, zH, zH, zH, zH, zH]) E_ w1_ ∧ r_ = some (zi (nI 1)) ∧ w_ = w1_ ++ [zAl 1 1 o_])) zNx := by
  refine z_startWD (by decide) [some (zr 1 0), some (zi x), some (zr 22 0), none] rfl (fun _ => Nat.le_of_ble_eq_true rfl) (fun _ => rfl) (fun X hD F E hT hin => ?_)
  subst hD
  have K0 : ∀ x', (x' < 4) → (x = nI x') → (told = true) → Z X [some (zr 1 0), some (zi x), some (zr 22 0), none] [zi (fdV x' mn kd fw ls), zi (nI 0), zr 22 0] ([zH, xO t fp, zH, zH, zH, zH, zH, zH, zH, zH, zH, eSm told pr mn kd fw ls nn, zH, zH, zH, zH, zH, zH, zH, zH, zH, zH] ++ [zAl 1 1 o_]) 1 6 7 := by
    intro x' h_1 h_2 h_3
    refine z_i2l F dX0_found_7 ?_
    refine z_lastN F rfl (Nat.le_of_ble_eq_true rfl) (by omega) dX0_found_8 ?_
    refine z_weq (w' := [_, _, _, _, _, _, _, _, _, _, _, _, _, _, _, _, _, _, _, _, _, _, _]) rfl ?_
    refine z_goto F (tgt := 15) dX0_found_9 (by decide) ?_
    refine z_iconst F (nI 0) dX0_found_15 rfl ?_
    exact z_iret F E rfl dX0_found_16 (by omega) (by omega) (Or.inl ⟨_, _, ⟨x', h_1, h_2, h_3, rfl, rfl⟩, rfl, rfl⟩)
  have hH : ∀ (k0 n0 : Nat), k0 ≤ 1 → n0 ≤ 6 → ((told && inB x (nI 0) (nI 3)) = false) → Z X [some (zr 1 0), some (zi x), some (zr 22 0), none] [zr 23 0] ([zH, xO t fp, zH, zH, zH, zH, zH, zH, zH, zH, zH, eSm told pr mn kd fw ls nn, zH, zH, zH, zH, zH, zH, zH, zH, zH, zH] ++ [zAl 1 1 o_]) k0 n0 12 := by
    intro k0 n0  hk0 hn0 h_4
    refine z_astore_n F dX0_found_12 (Nat.le_of_ble_eq_true rfl) ?_
    refine z_leq (L' := [_, _, _, _]) rfl ?_
    refine z_iconst F (nI 1) dX0_found_13 rfl ?_
    exact z_iret F E rfl dX0_found_14 (by omega) (by omega) (Or.inr ⟨_, _, ⟨rfl, h_4, rfl⟩, rfl, rfl⟩)
  refine z_aload_n F dX0_found_0 rfl ?_
  refine z_iconst F (nI 0) dX0_found_1 rfl ?_
  refine z_aload_n F dX0_found_2 rfl ?_
  refine z_iload_n F dX0_found_3 rfl ?_
  refine z_callV F (c_pfound t fp told pr mn kd fw ls nn x) 1 rfl (lw_V q1049 q1050 q1051 q109 q1052) (by decide +kernel) ⟨Nat.le_of_ble_eq_true rfl, Nat.le_of_ble_eq_true rfl⟩ ⟨by omega, by omega⟩ [0, 1, 2, 3, 4, 5, 6, 7, 8, 9, 10, 11, 12, 13, 14, 15, 16, 17, 18, 19, 20, 21] 23 ⟨rfl, rfl, rfl, ⟨Or.inl rfl, Or.inr rfl, Or.inl rfl, Or.inl rfl, Or.inl rfl, Or.inl rfl, Or.inl rfl, Or.inl rfl, Or.inl rfl, Or.inl rfl, Or.inl rfl, Or.inr rfl, Or.inl rfl, Or.inl rfl, Or.inl rfl, Or.inl rfl, Or.inl rfl, Or.inl rfl, Or.inl rfl, Or.inl rfl, Or.inl rfl, Or.inl rfl, trivial⟩⟩ (fun h => nomatch h) (Nat.le_of_ble_eq_true rfl) ⟨⟨Or.inr trivial, Or.inl rfl, Or.inr trivial, Or.inr trivial, Or.inr trivial, Or.inr trivial, Or.inr trivial, Or.inr trivial, Or.inr trivial, Or.inr trivial, Or.inr trivial, Or.inl rfl, Or.inr trivial, Or.inr trivial, Or.inr trivial, Or.inr trivial, Or.inr trivial, Or.inr trivial, Or.inr trivial, Or.inr trivial, Or.inr trivial, Or.inr trivial, Or.inr trivial, trivial⟩, rfl, rfl, rfl, Nat.le_of_ble_eq_true rfl⟩ rfl zC1 rfl rfl dX0_found_4 (fun r_4 w_4 hp => ?_) (fun E_ w_ hx => by obtain ⟨rfl, h_4, rfl⟩ := hx; exact zx_catch F hT [] ⟨0, 9, 12, 13⟩ [] rfl (fun _ h => nomatch h) (by decide) (by decide) lw_nse (hH _ _  (by omega) (by omega) h_4))
  rcases hp with ⟨x', h_1, h_2, h_3, rfl, rfl⟩
  · exact K0 x' h_1 h_2 h_3
theorem cw_plaid (Dg : va_G) (t : Nat) (fp : Int32) (N : Nat) (g : Nat → Int32) (hN : N ≤ 24) (x : Int32) (o_ : Nat → Int64) : zCtrWD Dg yX0_laid cX0_laid 4 (some .int) [(0, 9, 12, 13)] 8 1 6 [zr 1 0, zi x, zr 22 0] ([zH, xO t fp, zH, zH, zH, zH, zH, zH, zH, zH, zH, zH, zH, zH, zH, zH, zH, zH, zH, zH, zH, zAi 0 N g] ++ [zAl 1 1 o_]) (fun r_ w_ => (∃ v_ w1_, (fun r w => ∃ x', x' < N ∧ x = nI x' ∧ r = some (zi (g x')) ∧ w = [zH, xO t fp, zH, zH, zH, zH, zH, zH, zH, zH, zH, zH, zH, zH, zH, zH, zH, zH, zH, zH, zH, zAi 0 N g]) (some v_) w1_ ∧ r_ = some (zi (nI 0)) ∧ w_ = w1_ ++ [zAl 1 1 (vp_updL o_ 0 (cvV v_))]) ∨ (∃ E_ w1_, (fun E w => E = eNSE ∧ (∀ i, i < N → x ≠ nI i) ∧ w = [zH, xO t fp, zH, zH, zH, zH, zH, zH, zH, zH, zH, zH, zH, zH, zH, zH, zH, zH, zH, zH, zH, zAi 0 N g]) E_ w1_ ∧ r_ = some (zi (nI 1)) ∧ w_ = w1_ ++ [zAl 1 1 o_])) zNx := by
  refine z_startWD (by decide) [some (zr 1 0), some (zi x), some (zr 22 0), none] rfl (fun _ => Nat.le_of_ble_eq_true rfl) (fun _ => rfl) (fun X hD F E hT hin => ?_)
  subst hD
  have K0 : ∀ x', (x' < N) → (x = nI x') → Z X [some (zr 1 0), some (zi x), some (zr 22 0), none] [zi (g x'), zi (nI 0), zr 22 0] ([zH, xO t fp, zH, zH, zH, zH, zH, zH, zH, zH, zH, zH, zH, zH, zH, zH, zH, zH, zH, zH, zH, zAi 0 N g] ++ [zAl 1 1 o_]) 1 6 7 := by
    intro x' h_1 h_2
    refine z_i2l F dX0_laid_7 ?_
    refine z_lastN F rfl (Nat.le_of_ble_eq_true rfl) (by omega) dX0_laid_8 ?_
    refine z_weq (w' := [_, _, _, _, _, _, _, _, _, _, _, _, _, _, _, _, _, _, _, _, _, _, _]) rfl ?_
    refine z_goto F (tgt := 15) dX0_laid_9 (by decide) ?_
    refine z_iconst F (nI 0) dX0_laid_15 rfl ?_
    exact z_iret F E rfl dX0_laid_16 (by omega) (by omega) (Or.inl ⟨_, _, ⟨x', h_1, h_2, rfl, rfl⟩, rfl, rfl⟩)
  have hH : ∀ (k0 n0 : Nat), k0 ≤ 1 → n0 ≤ 6 → (∀ i, i < N → x ≠ nI i) → Z X [some (zr 1 0), some (zi x), some (zr 22 0), none] [zr 23 0] ([zH, xO t fp, zH, zH, zH, zH, zH, zH, zH, zH, zH, zH, zH, zH, zH, zH, zH, zH, zH, zH, zH, zAi 0 N g] ++ [zAl 1 1 o_]) k0 n0 12 := by
    intro k0 n0  hk0 hn0 h_3
    refine z_astore_n F dX0_laid_12 (Nat.le_of_ble_eq_true rfl) ?_
    refine z_leq (L' := [_, _, _, _]) rfl ?_
    refine z_iconst F (nI 1) dX0_laid_13 rfl ?_
    exact z_iret F E rfl dX0_laid_14 (by omega) (by omega) (Or.inr ⟨_, _, ⟨rfl, h_3, rfl⟩, rfl, rfl⟩)
  refine z_aload_n F dX0_laid_0 rfl ?_
  refine z_iconst F (nI 0) dX0_laid_1 rfl ?_
  refine z_aload_n F dX0_laid_2 rfl ?_
  refine z_iload_n F dX0_laid_3 rfl ?_
  refine z_callV F (c_plaid t fp N g hN x) 1 rfl (lw_V q1285 q1286 q1287 q109 q1288) (by decide +kernel) ⟨Nat.le_of_ble_eq_true rfl, Nat.le_of_ble_eq_true rfl⟩ ⟨by omega, by omega⟩ [0, 1, 2, 3, 4, 5, 6, 7, 8, 9, 10, 11, 12, 13, 14, 15, 16, 17, 18, 19, 20, 21] 23 ⟨rfl, rfl, rfl, ⟨Or.inl rfl, Or.inr rfl, Or.inl rfl, Or.inl rfl, Or.inl rfl, Or.inl rfl, Or.inl rfl, Or.inl rfl, Or.inl rfl, Or.inl rfl, Or.inl rfl, Or.inl rfl, Or.inl rfl, Or.inl rfl, Or.inl rfl, Or.inl rfl, Or.inl rfl, Or.inl rfl, Or.inl rfl, Or.inl rfl, Or.inl rfl, Or.inr rfl, trivial⟩⟩ (fun h => nomatch h) (Nat.le_of_ble_eq_true rfl) ⟨⟨Or.inr trivial, Or.inl rfl, Or.inr trivial, Or.inr trivial, Or.inr trivial, Or.inr trivial, Or.inr trivial, Or.inr trivial, Or.inr trivial, Or.inr trivial, Or.inr trivial, Or.inr trivial, Or.inr trivial, Or.inr trivial, Or.inr trivial, Or.inr trivial, Or.inr trivial, Or.inr trivial, Or.inr trivial, Or.inr trivial, Or.inr trivial, Or.inl rfl, Or.inr trivial, trivial⟩, rfl, rfl, rfl, Nat.le_of_ble_eq_true rfl⟩ rfl zC1 rfl rfl dX0_laid_4 (fun r_4 w_4 hp => ?_) (fun E_ w_ hx => by obtain ⟨rfl, h_3, rfl⟩ := hx; exact zx_catch F hT [] ⟨0, 9, 12, 13⟩ [] rfl (fun _ h => nomatch h) (by decide) (by decide) lw_nse (hH _ _  (by omega) (by omega) h_3))
  rcases hp with ⟨x', h_1, h_2, rfl, rfl⟩
  · exact K0 x' h_1 h_2
theorem cw_pcount (Dg : va_G) (P : zPt) (t : Nat) (fp : Int32) (x : Nat) (hx : x < 2) (o_ : Nat → Int64) : zCtrWD Dg yX0_count cX0_count 4 (some .int) [(0, 9, 12, 13)] 8 1 6 [zr 1 0, zi (nI x), zr 22 0] ((xH P t fp) ++ [zAl 1 1 o_]) (fun r_ w_ => (∃ v_ w1_, (fun r w => r = some (zi (nI (if x = 1 then t else fb_ct (fun s => (P s).isSome) 8))) ∧ w = xH P t fp) (some v_) w1_ ∧ r_ = some (zi (nI 0)) ∧ w_ = w1_ ++ [zAl 1 1 (vp_updL o_ 0 (cvV v_))])) zNx := by
  refine z_startWD (by decide) [some (zr 1 0), some (zi (nI x)), some (zr 22 0), none] rfl (fun _ => Nat.le_of_ble_eq_true rfl) (fun _ => rfl) (fun X hD F E hT hin => ?_)
  subst hD
  have K0 : ∀ (_ : True), Z X [some (zr 1 0), some (zi (nI x)), some (zr 22 0), none] [zi (nI (if x = 1 then t else fb_ct (fun s => (P s).isSome) 8)), zi (nI 0), zr 22 0] (xH P t fp ++ [zAl 1 1 o_]) 1 6 7 := by
    intro _ 
    refine z_i2l F dX0_count_7 ?_
    refine z_lastN F rfl (Nat.le_of_ble_eq_true rfl) (by omega) dX0_count_8 ?_
    refine z_weq (w' := [_, _, _, _, _, _, _, _, _, _, _, _, _, _, _, _, _, _, _, _, _, _, _]) rfl ?_
    refine z_goto F (tgt := 15) dX0_count_9 (by decide) ?_
    refine z_iconst F (nI 0) dX0_count_15 rfl ?_
    exact z_iret F E rfl dX0_count_16 (by omega) (by omega) (⟨_, _, ⟨rfl, rfl⟩, rfl, rfl⟩)
  refine z_aload_n F dX0_count_0 rfl ?_
  refine z_iconst F (nI 0) dX0_count_1 rfl ?_
  refine z_aload_n F dX0_count_2 rfl ?_
  refine z_iload_n F dX0_count_3 rfl ?_
  refine z_callV F (c_pcount P t fp x hx) 1 rfl (lw_V q1469 q1470 q1471 q109 q1472) (by decide +kernel) ⟨Nat.le_of_ble_eq_true rfl, Nat.le_of_ble_eq_true rfl⟩ ⟨by omega, by omega⟩ [0, 1, 2, 3, 4, 5, 6, 7, 8, 9, 10, 11, 12, 13, 14, 15, 16, 17, 18, 19, 20, 21] 23 ⟨rfl, rfl, rfl, ⟨Or.inr (congrArg some (zrnP rfl).symm), Or.inr rfl, Or.inl rfl, Or.inl rfl, Or.inl rfl, Or.inl rfl, Or.inl rfl, Or.inl rfl, Or.inl rfl, Or.inl rfl, Or.inl rfl, Or.inl rfl, Or.inl rfl, Or.inl rfl, Or.inl rfl, Or.inl rfl, Or.inl rfl, Or.inl rfl, Or.inl rfl, Or.inl rfl, Or.inl rfl, Or.inl rfl, trivial⟩⟩ (fun _ => rfl) (Nat.le_of_ble_eq_true rfl) ⟨⟨Or.inl rfl, Or.inl rfl, Or.inr trivial, Or.inr trivial, Or.inr trivial, Or.inr trivial, Or.inr trivial, Or.inr trivial, Or.inr trivial, Or.inr trivial, Or.inr trivial, Or.inr trivial, Or.inr trivial, Or.inr trivial, Or.inr trivial, Or.inr trivial, Or.inr trivial, Or.inr trivial, Or.inr trivial, Or.inr trivial, Or.inr trivial, Or.inr trivial, Or.inr trivial, trivial⟩, rfl, rfl, rfl, Nat.le_of_ble_eq_true rfl⟩ rfl zC1 rfl rfl dX0_count_4 (fun r_4 w_4 hp => ?_) (fun _ _ h => h.elim)
  rcases hp with ⟨rfl, rfl⟩
  · refine z_weq (w' := zPl (pR _) _ :: _) (congrArg (fun z => z :: _) (zrnP rfl)) ?_; exact K0 trivial
theorem cw_pcount_bad (Dg : va_G) (P : zPt) (t : Nat) (fp : Int32) (x : Int32) (hx : ∀ i, i < 2 → x ≠ nI i) (o_ : Nat → Int64) : zCtrWD Dg yX0_count cX0_count 4 (some .int) [(0, 9, 12, 13)] 8 1 6 [zr 1 0, zi x, zr 22 0] ((xH P t fp) ++ [zAl 1 1 o_]) (fun r_ w_ => (∃ v_ w1_, (fun r w => False) (some v_) w1_ ∧ r_ = some (zi (nI 0)) ∧ w_ = w1_ ++ [zAl 1 1 (vp_updL o_ 0 (cvV v_))]) ∨ (∃ E_ w1_, (fun E w => E = eNSE ∧ True ∧ w = xH P t fp) E_ w1_ ∧ r_ = some (zi (nI 1)) ∧ w_ = w1_ ++ [zAl 1 1 o_])) zNx := by
  refine z_startWD (by decide) [some (zr 1 0), some (zi x), some (zr 22 0), none] rfl (fun _ => Nat.le_of_ble_eq_true rfl) (fun _ => rfl) (fun X hD F E hT hin => ?_)
  subst hD
  have hH : ∀ (k0 n0 : Nat), k0 ≤ 1 → n0 ≤ 6 → (True) → Z X [some (zr 1 0), some (zi x), some (zr 22 0), none] [zr 23 0] (xH P t fp ++ [zAl 1 1 o_]) k0 n0 12 := by
    intro k0 n0  hk0 hn0 h_2
    refine z_astore_n F dX0_count_12 (Nat.le_of_ble_eq_true rfl) ?_
    refine z_leq (L' := [_, _, _, _]) rfl ?_
    refine z_iconst F (nI 1) dX0_count_13 rfl ?_
    exact z_iret F E rfl dX0_count_14 (by omega) (by omega) (Or.inr ⟨_, _, ⟨rfl, h_2, rfl⟩, rfl, rfl⟩)
  refine z_aload_n F dX0_count_0 rfl ?_
  refine z_iconst F (nI 0) dX0_count_1 rfl ?_
  refine z_aload_n F dX0_count_2 rfl ?_
  refine z_iload_n F dX0_count_3 rfl ?_
  refine z_callV F (c_pcount_bad P t fp x hx) 1 rfl (lw_V q1469 q1470 q1471 q109 q1472) (by decide +kernel) ⟨Nat.le_of_ble_eq_true rfl, Nat.le_of_ble_eq_true rfl⟩ ⟨by omega, by omega⟩ [0, 1, 2, 3, 4, 5, 6, 7, 8, 9, 10, 11, 12, 13, 14, 15, 16, 17, 18, 19, 20, 21] 23 ⟨rfl, rfl, rfl, ⟨Or.inr (congrArg some (zrnP rfl).symm), Or.inr rfl, Or.inl rfl, Or.inl rfl, Or.inl rfl, Or.inl rfl, Or.inl rfl, Or.inl rfl, Or.inl rfl, Or.inl rfl, Or.inl rfl, Or.inl rfl, Or.inl rfl, Or.inl rfl, Or.inl rfl, Or.inl rfl, Or.inl rfl, Or.inl rfl, Or.inl rfl, Or.inl rfl, Or.inl rfl, Or.inl rfl, trivial⟩⟩ (fun _ => rfl) (Nat.le_of_ble_eq_true rfl) ⟨⟨Or.inl rfl, Or.inl rfl, Or.inr trivial, Or.inr trivial, Or.inr trivial, Or.inr trivial, Or.inr trivial, Or.inr trivial, Or.inr trivial, Or.inr trivial, Or.inr trivial, Or.inr trivial, Or.inr trivial, Or.inr trivial, Or.inr trivial, Or.inr trivial, Or.inr trivial, Or.inr trivial, Or.inr trivial, Or.inr trivial, Or.inr trivial, Or.inr trivial, Or.inr trivial, trivial⟩, rfl, rfl, rfl, Nat.le_of_ble_eq_true rfl⟩ rfl zC1 rfl rfl dX0_count_4 (fun r_4 w_4 hp => ?_) (fun E_ w_ hx => by obtain ⟨rfl, h_2, rfl⟩ := hx; exact zx_catch F hT [] ⟨0, 9, 12, 13⟩ [] rfl (fun _ h => nomatch h) (by decide) (by decide) lw_nse (z_weq (w' := zPl (pR _) _ :: _) (congrArg (fun z => z :: _) (zrnP rfl)) (hH _ _  (by omega) (by omega) h_2)))
  exact hp.elim
theorem cw_pgrow1 (Dg : va_G) (P : zPt) (t : Nat) (fp sn0 g0 sm0 : Int32) (D : Nat → Int32) (j n d : Nat) (f : Nat → Int32) (hj : j < 8) (h : nok n d f) (hn : n < 24) (hP : P j = some (nI n, nI d, f)) (o_ : Nat → Int64) : zCtrWD Dg yX0_grow cX0_grow 5 (some .int) [(0, 10, 13, 13), (0, 10, 17, 22)] 9 6 160 [zr 1 0, zi (nI j), zi (nI 1), zr 22 0] ((xFl P t fp sn0 g0 sm0 D) ++ [zAl 1 1 o_]) (fun r_ w_ => (∃ v_ w1_, (fun r w => r = some (zi (gvI (ga1 n f (prs n f).length))) ∧ ∃ sn g sm D, ((ga1 n f (prs n f).length = none ∧ w = xFl P t fp sn g sm D) ∨ ∃ q y, ga1 n f (prs n f).length = some q ∧ (∀ k, k < 24 → y k = gw1 n f q.1 k) ∧ w = xFl (zput P j (some (nI (n + 1), nI (max d 2), y))) t fp sn g sm D)) (some v_) w1_ ∧ r_ = some (zi (nI 0)) ∧ w_ = w1_ ++ [zAl 1 1 (vp_updL o_ 0 (cvV v_))])) zNx := by
  refine z_startWD (by decide) [some (zr 1 0), some (zi (nI j)), some (zi (nI 1)), some (zr 22 0), none] rfl (fun _ => Nat.le_of_ble_eq_true rfl) (fun _ => rfl) (fun X hD F E hT hin => ?_)
  subst hD
  have K0 : ∀ sn g sm D, (ga1 n f (prs n f).length = none) → Z X [some (zr 1 0), some (zi (nI j)), some (zi (nI 1)), some (zr 22 0), none] [zi (gvI (ga1 n f (prs n f).length)), zi (nI 0), zr 22 0] (xFl P t fp sn g sm D ++ [zAl 1 1 o_]) 6 160 8 := by
    intro sn g sm D h_1
    refine z_i2l F dX0_grow_8 ?_
    refine z_lastN F rfl (Nat.le_of_ble_eq_true rfl) (by omega) dX0_grow_9 ?_
    refine z_weq (w' := [_, _, _, _, _, _, _, _, _, _, _, _, _, _, _, _, _, _, _, _, _, _, _]) rfl ?_
    refine z_goto F (tgt := 21) dX0_grow_10 (by decide) ?_
    refine z_iconst F (nI 0) dX0_grow_21 rfl ?_
    exact z_iret F E rfl dX0_grow_22 (by omega) (by omega) (⟨_, _, ⟨rfl, sn, g, sm, D, Or.inl ⟨h_1, rfl⟩⟩, rfl, rfl⟩)
  have K1 : ∀ sn g sm D q y, (ga1 n f (prs n f).length = some q) → (∀ k, k < 24 → y k = gw1 n f q.1 k) → Z X [some (zr 1 0), some (zi (nI j)), some (zi (nI 1)), some (zr 22 0), none] [zi (gvI (ga1 n f (prs n f).length)), zi (nI 0), zr 22 0] (xFl (zput P j (some (nI (n + 1), nI (max d 2), y))) t fp sn g sm D ++ [zAl 1 1 o_]) 6 160 8 := by
    intro sn g sm D q y h_2 h_3
    refine z_i2l F dX0_grow_8 ?_
    refine z_lastN F rfl (Nat.le_of_ble_eq_true rfl) (by omega) dX0_grow_9 ?_
    refine z_weq (w' := [_, _, _, _, _, _, _, _, _, _, _, _, _, _, _, _, _, _, _, _, _, _, _]) rfl ?_
    refine z_goto F (tgt := 21) dX0_grow_10 (by decide) ?_
    refine z_iconst F (nI 0) dX0_grow_21 rfl ?_
    exact z_iret F E rfl dX0_grow_22 (by omega) (by omega) (⟨_, _, ⟨rfl, sn, g, sm, D, Or.inr ⟨q, y, h_2, h_3, rfl⟩⟩, rfl, rfl⟩)
  refine z_aload_n F dX0_grow_0 rfl ?_
  refine z_iconst F (nI 0) dX0_grow_1 rfl ?_
  refine z_aload_n F dX0_grow_2 rfl ?_
  refine z_iload_n F dX0_grow_3 rfl ?_
  refine z_iload_n F dX0_grow_4 rfl ?_
  refine z_callV F (c_pgrow1 P t fp sn0 g0 sm0 D j n d f hj h hn hP) 2 rfl (lw_V q1452 q1453 q1454 q109 q1455) (by decide +kernel) ⟨Nat.le_of_ble_eq_true rfl, Nat.le_of_ble_eq_true rfl⟩ ⟨by omega, by omega⟩ [0, 1, 2, 3, 4, 5, 6, 7, 8, 9, 10, 11, 12, 13, 14, 15, 16, 17, 18, 19, 20, 21] 23 ⟨rfl, rfl, rfl, ⟨Or.inr (congrArg some (zrnP rfl).symm), Or.inr rfl, Or.inl rfl, Or.inr rfl, Or.inr rfl, Or.inl rfl, Or.inl rfl, Or.inl rfl, Or.inl rfl, Or.inl rfl, Or.inl rfl, Or.inl rfl, Or.inl rfl, Or.inl rfl, Or.inl rfl, Or.inl rfl, Or.inl rfl, Or.inl rfl, Or.inl rfl, Or.inl rfl, Or.inl rfl, Or.inl rfl, trivial⟩⟩ (fun _ => rfl) (Nat.le_of_ble_eq_true rfl) ⟨⟨Or.inl rfl, Or.inl rfl, Or.inr trivial, Or.inl rfl, Or.inl rfl, Or.inr trivial, Or.inr trivial, Or.inr trivial, Or.inr trivial, Or.inr trivial, Or.inr trivial, Or.inr trivial, Or.inr trivial, Or.inr trivial, Or.inr trivial, Or.inr trivial, Or.inr trivial, Or.inr trivial, Or.inr trivial, Or.inr trivial, Or.inr trivial, Or.inr trivial, Or.inr trivial, trivial⟩, rfl, rfl, rfl, Nat.le_of_ble_eq_true rfl⟩ rfl zC1 rfl rfl dX0_grow_5 (fun r_5 w_5 hp => ?_) (fun _ _ h => h.elim)
  rcases hp with ⟨rfl, sn, g, sm, D, (⟨h_1, rfl⟩ | ⟨q, y, h_2, h_3, rfl⟩)⟩
  · refine z_weq (w' := zPl (pR _) _ :: _) (congrArg (fun z => z :: _) (zrnP rfl)) ?_; exact K0 sn g sm D h_1
  · refine z_weq (w' := zPl (pR _) _ :: _) (congrArg (fun z => z :: _) (zrnP rfl)) ?_; exact K1 sn g sm D q y h_2 h_3
theorem cw_pgrow2 (Dg : va_G) (P : zPt) (t : Nat) (fp sn0 g0 sm0 : Int32) (D : Nat → Int32) (j n d : Nat) (f : Nat → Int32) (hj : j < 8) (h : nok n d f) (hn : n < 24) (hP : P j = some (nI n, nI d, f)) (o_ : Nat → Int64) : zCtrWD Dg yX0_grow cX0_grow 5 (some .int) [(0, 10, 13, 13), (0, 10, 17, 22)] 9 6 160 [zr 1 0, zi (nI j), zi (nI 2), zr 22 0] ((xFl P t fp sn0 g0 sm0 D) ++ [zAl 1 1 o_]) (fun r_ w_ => (∃ v_ w1_, (fun r w => r = some (zi (gvI (ga2 n f (prs n f).length))) ∧ ∃ sn g sm D, ((ga2 n f (prs n f).length = none ∧ w = xFl P t fp sn g sm D) ∨ ∃ q y, ga2 n f (prs n f).length = some q ∧ (∀ k, k < 24 → y k = gw2 n f q.1 q.2.1 k) ∧ w = xFl (zput P j (some (nI (n + 1), nI (max d 4), y))) t fp sn g sm D)) (some v_) w1_ ∧ r_ = some (zi (nI 0)) ∧ w_ = w1_ ++ [zAl 1 1 (vp_updL o_ 0 (cvV v_))])) zNx := by
  refine z_startWD (by decide) [some (zr 1 0), some (zi (nI j)), some (zi (nI 2)), some (zr 22 0), none] rfl (fun _ => Nat.le_of_ble_eq_true rfl) (fun _ => rfl) (fun X hD F E hT hin => ?_)
  subst hD
  have K0 : ∀ sn g sm D, (ga2 n f (prs n f).length = none) → Z X [some (zr 1 0), some (zi (nI j)), some (zi (nI 2)), some (zr 22 0), none] [zi (gvI (ga2 n f (prs n f).length)), zi (nI 0), zr 22 0] (xFl P t fp sn g sm D ++ [zAl 1 1 o_]) 6 160 8 := by
    intro sn g sm D h_1
    refine z_i2l F dX0_grow_8 ?_
    refine z_lastN F rfl (Nat.le_of_ble_eq_true rfl) (by omega) dX0_grow_9 ?_
    refine z_weq (w' := [_, _, _, _, _, _, _, _, _, _, _, _, _, _, _, _, _, _, _, _, _, _, _]) rfl ?_
    refine z_goto F (tgt := 21) dX0_grow_10 (by decide) ?_
    refine z_iconst F (nI 0) dX0_grow_21 rfl ?_
    exact z_iret F E rfl dX0_grow_22 (by omega) (by omega) (⟨_, _, ⟨rfl, sn, g, sm, D, Or.inl ⟨h_1, rfl⟩⟩, rfl, rfl⟩)
  have K1 : ∀ sn g sm D q y, (ga2 n f (prs n f).length = some q) → (∀ k, k < 24 → y k = gw2 n f q.1 q.2.1 k) → Z X [some (zr 1 0), some (zi (nI j)), some (zi (nI 2)), some (zr 22 0), none] [zi (gvI (ga2 n f (prs n f).length)), zi (nI 0), zr 22 0] (xFl (zput P j (some (nI (n + 1), nI (max d 4), y))) t fp sn g sm D ++ [zAl 1 1 o_]) 6 160 8 := by
    intro sn g sm D q y h_2 h_3
    refine z_i2l F dX0_grow_8 ?_
    refine z_lastN F rfl (Nat.le_of_ble_eq_true rfl) (by omega) dX0_grow_9 ?_
    refine z_weq (w' := [_, _, _, _, _, _, _, _, _, _, _, _, _, _, _, _, _, _, _, _, _, _, _]) rfl ?_
    refine z_goto F (tgt := 21) dX0_grow_10 (by decide) ?_
    refine z_iconst F (nI 0) dX0_grow_21 rfl ?_
    exact z_iret F E rfl dX0_grow_22 (by omega) (by omega) (⟨_, _, ⟨rfl, sn, g, sm, D, Or.inr ⟨q, y, h_2, h_3, rfl⟩⟩, rfl, rfl⟩)
  refine z_aload_n F dX0_grow_0 rfl ?_
  refine z_iconst F (nI 0) dX0_grow_1 rfl ?_
  refine z_aload_n F dX0_grow_2 rfl ?_
  refine z_iload_n F dX0_grow_3 rfl ?_
  refine z_iload_n F dX0_grow_4 rfl ?_
  refine z_callV F (c_pgrow2 P t fp sn0 g0 sm0 D j n d f hj h hn hP) 2 rfl (lw_V q1452 q1453 q1454 q109 q1455) (by decide +kernel) ⟨Nat.le_of_ble_eq_true rfl, Nat.le_of_ble_eq_true rfl⟩ ⟨by omega, by omega⟩ [0, 1, 2, 3, 4, 5, 6, 7, 8, 9, 10, 11, 12, 13, 14, 15, 16, 17, 18, 19, 20, 21] 23 ⟨rfl, rfl, rfl, ⟨Or.inr (congrArg some (zrnP rfl).symm), Or.inr rfl, Or.inl rfl, Or.inr rfl, Or.inr rfl, Or.inl rfl, Or.inl rfl, Or.inl rfl, Or.inl rfl, Or.inl rfl, Or.inl rfl, Or.inl rfl, Or.inl rfl, Or.inl rfl, Or.inl rfl, Or.inl rfl, Or.inl rfl, Or.inl rfl, Or.inl rfl, Or.inl rfl, Or.inl rfl, Or.inl rfl, trivial⟩⟩ (fun _ => rfl) (Nat.le_of_ble_eq_true rfl) ⟨⟨Or.inl rfl, Or.inl rfl, Or.inr trivial, Or.inl rfl, Or.inl rfl, Or.inr trivial, Or.inr trivial, Or.inr trivial, Or.inr trivial, Or.inr trivial, Or.inr trivial, Or.inr trivial, Or.inr trivial, Or.inr trivial, Or.inr trivial, Or.inr trivial, Or.inr trivial, Or.inr trivial, Or.inr trivial, Or.inr trivial, Or.inr trivial, Or.inr trivial, Or.inr trivial, trivial⟩, rfl, rfl, rfl, Nat.le_of_ble_eq_true rfl⟩ rfl zC1 rfl rfl dX0_grow_5 (fun r_5 w_5 hp => ?_) (fun _ _ h => h.elim)
  rcases hp with ⟨rfl, sn, g, sm, D, (⟨h_1, rfl⟩ | ⟨q, y, h_2, h_3, rfl⟩)⟩
  · refine z_weq (w' := zPl (pR _) _ :: _) (congrArg (fun z => z :: _) (zrnP rfl)) ?_; exact K0 sn g sm D h_1
  · refine z_weq (w' := zPl (pR _) _ :: _) (congrArg (fun z => z :: _) (zrnP rfl)) ?_; exact K1 sn g sm D q y h_2 h_3
theorem cw_pgrow_bad (Dg : va_G) (P : zPt) (t : Nat) (fp : Int32) (j n d : Nat) (f : Nat → Int32) (x : Int32) (hj : j < 8) (hP : P j = some (nI n, nI d, f)) (hx : ∀ i, 1 ≤ i → i ≤ 2 → x ≠ nI i) (o_ : Nat → Int64) : zCtrWD Dg yX0_grow cX0_grow 5 (some .int) [(0, 10, 13, 13), (0, 10, 17, 22)] 9 6 160 [zr 1 0, zi (nI j), zi x, zr 22 0] ((xH P t fp) ++ [zAl 1 1 o_]) (fun r_ w_ => (∃ v_ w1_, (fun r w => False) (some v_) w1_ ∧ r_ = some (zi (nI 0)) ∧ w_ = w1_ ++ [zAl 1 1 (vp_updL o_ 0 (cvV v_))]) ∨ (∃ E_ w1_, (fun E w => E = eIAE ∧ True ∧ w = xH P t fp) E_ w1_ ∧ r_ = some (zi (nI 2)) ∧ w_ = w1_ ++ [zAl 1 1 o_])) zNx := by
  refine z_startWD (by decide) [some (zr 1 0), some (zi (nI j)), some (zi x), some (zr 22 0), none] rfl (fun _ => Nat.le_of_ble_eq_true rfl) (fun _ => rfl) (fun X hD F E hT hin => ?_)
  subst hD
  have hH : ∀ (k0 n0 : Nat), k0 ≤ 6 → n0 ≤ 160 → (True) → Z X [some (zr 1 0), some (zi (nI j)), some (zi x), some (zr 22 0), none] [zr 23 0] (xH P t fp ++ [zAl 1 1 o_]) k0 n0 17 := by
    intro k0 n0  hk0 hn0 h_2
    refine z_astore F dX0_grow_17 (Nat.le_of_ble_eq_true rfl) ?_
    refine z_leq (L' := [_, _, _, _, _]) rfl ?_
    refine z_iconst F (nI 2) dX0_grow_19 rfl ?_
    exact z_iret F E rfl dX0_grow_20 (by omega) (by omega) (Or.inr ⟨_, _, ⟨rfl, h_2, rfl⟩, rfl, rfl⟩)
  refine z_aload_n F dX0_grow_0 rfl ?_
  refine z_iconst F (nI 0) dX0_grow_1 rfl ?_
  refine z_aload_n F dX0_grow_2 rfl ?_
  refine z_iload_n F dX0_grow_3 rfl ?_
  refine z_iload_n F dX0_grow_4 rfl ?_
  refine z_callV F (c_pgrow_bad P t fp j n d f x hj hP hx) 2 rfl (lw_V q1452 q1453 q1454 q109 q1455) (by decide +kernel) ⟨Nat.le_of_ble_eq_true rfl, Nat.le_of_ble_eq_true rfl⟩ ⟨by omega, by omega⟩ [0, 1, 2, 3, 4, 5, 6, 7, 8, 9, 10, 11, 12, 13, 14, 15, 16, 17, 18, 19, 20, 21] 23 ⟨rfl, rfl, rfl, ⟨Or.inr (congrArg some (zrnP rfl).symm), Or.inr rfl, Or.inl rfl, Or.inl rfl, Or.inl rfl, Or.inl rfl, Or.inl rfl, Or.inl rfl, Or.inl rfl, Or.inl rfl, Or.inl rfl, Or.inl rfl, Or.inl rfl, Or.inl rfl, Or.inl rfl, Or.inl rfl, Or.inl rfl, Or.inl rfl, Or.inl rfl, Or.inl rfl, Or.inl rfl, Or.inl rfl, trivial⟩⟩ (fun _ => rfl) (Nat.le_of_ble_eq_true rfl) ⟨⟨Or.inl rfl, Or.inl rfl, Or.inr trivial, Or.inr trivial, Or.inr trivial, Or.inr trivial, Or.inr trivial, Or.inr trivial, Or.inr trivial, Or.inr trivial, Or.inr trivial, Or.inr trivial, Or.inr trivial, Or.inr trivial, Or.inr trivial, Or.inr trivial, Or.inr trivial, Or.inr trivial, Or.inr trivial, Or.inr trivial, Or.inr trivial, Or.inr trivial, Or.inr trivial, trivial⟩, rfl, rfl, rfl, Nat.le_of_ble_eq_true rfl⟩ rfl zC1 rfl rfl dX0_grow_5 (fun r_5 w_5 hp => ?_) (fun E_ w_ hx => by obtain ⟨rfl, h_2, rfl⟩ := hx; exact zx_catch2 F hT ⟨0, 10, 13, 13⟩ ⟨0, 10, 17, 22⟩ rfl (by decide) (by decide) (by decide) lw_nse lw_iae (z_weq (w' := zPl (pR _) _ :: _) (congrArg (fun z => z :: _) (zrnP rfl)) (hH _ _  (by omega) (by omega) h_2)))
  exact hp.elim
theorem cw_pgrow_full (Dg : va_G) (P : zPt) (t : Nat) (fp : Int32) (j d p : Nat) (f : Nat → Int32) (hj : j < 8) (hP : P j = some (nI 24, nI d, f)) (hp1 : 1 ≤ p) (hp2 : p ≤ 2) (o_ : Nat → Int64) : zCtrWD Dg yX0_grow cX0_grow 5 (some .int) [(0, 10, 13, 13), (0, 10, 17, 22)] 9 6 160 [zr 1 0, zi (nI j), zi (nI p), zr 22 0] ((xH P t fp) ++ [zAl 1 1 o_]) (fun r_ w_ => (∃ v_ w1_, (fun r w => r = some (zi (-1)) ∧ w = xH P t fp) (some v_) w1_ ∧ r_ = some (zi (nI 0)) ∧ w_ = w1_ ++ [zAl 1 1 (vp_updL o_ 0 (cvV v_))])) zNx := by
  refine z_startWD (by decide) [some (zr 1 0), some (zi (nI j)), some (zi (nI p)), some (zr 22 0), none] rfl (fun _ => Nat.le_of_ble_eq_true rfl) (fun _ => rfl) (fun X hD F E hT hin => ?_)
  subst hD
  have K0 : ∀ (_ : True), Z X [some (zr 1 0), some (zi (nI j)), some (zi (nI p)), some (zr 22 0), none] [zi (-1), zi (nI 0), zr 22 0] (xH P t fp ++ [zAl 1 1 o_]) 6 160 8 := by
    intro _ 
    refine z_i2l F dX0_grow_8 ?_
    refine z_lastN F rfl (Nat.le_of_ble_eq_true rfl) (by omega) dX0_grow_9 ?_
    refine z_weq (w' := [_, _, _, _, _, _, _, _, _, _, _, _, _, _, _, _, _, _, _, _, _, _, _]) rfl ?_
    refine z_goto F (tgt := 21) dX0_grow_10 (by decide) ?_
    refine z_iconst F (nI 0) dX0_grow_21 rfl ?_
    exact z_iret F E rfl dX0_grow_22 (by omega) (by omega) (⟨_, _, ⟨rfl, rfl⟩, rfl, rfl⟩)
  refine z_aload_n F dX0_grow_0 rfl ?_
  refine z_iconst F (nI 0) dX0_grow_1 rfl ?_
  refine z_aload_n F dX0_grow_2 rfl ?_
  refine z_iload_n F dX0_grow_3 rfl ?_
  refine z_iload_n F dX0_grow_4 rfl ?_
  refine z_callV F (c_pgrow_full P t fp j d p f hj hP hp1 hp2) 2 rfl (lw_V q1452 q1453 q1454 q109 q1455) (by decide +kernel) ⟨Nat.le_of_ble_eq_true rfl, Nat.le_of_ble_eq_true rfl⟩ ⟨by omega, by omega⟩ [0, 1, 2, 3, 4, 5, 6, 7, 8, 9, 10, 11, 12, 13, 14, 15, 16, 17, 18, 19, 20, 21] 23 ⟨rfl, rfl, rfl, ⟨Or.inr (congrArg some (zrnP rfl).symm), Or.inr rfl, Or.inl rfl, Or.inl rfl, Or.inl rfl, Or.inl rfl, Or.inl rfl, Or.inl rfl, Or.inl rfl, Or.inl rfl, Or.inl rfl, Or.inl rfl, Or.inl rfl, Or.inl rfl, Or.inl rfl, Or.inl rfl, Or.inl rfl, Or.inl rfl, Or.inl rfl, Or.inl rfl, Or.inl rfl, Or.inl rfl, trivial⟩⟩ (fun _ => rfl) (Nat.le_of_ble_eq_true rfl) ⟨⟨Or.inl rfl, Or.inl rfl, Or.inr trivial, Or.inr trivial, Or.inr trivial, Or.inr trivial, Or.inr trivial, Or.inr trivial, Or.inr trivial, Or.inr trivial, Or.inr trivial, Or.inr trivial, Or.inr trivial, Or.inr trivial, Or.inr trivial, Or.inr trivial, Or.inr trivial, Or.inr trivial, Or.inr trivial, Or.inr trivial, Or.inr trivial, Or.inr trivial, Or.inr trivial, trivial⟩, rfl, rfl, rfl, Nat.le_of_ble_eq_true rfl⟩ rfl zC1 rfl rfl dX0_grow_5 (fun r_5 w_5 hp => ?_) (fun _ _ h => h.elim)
  rcases hp with ⟨rfl, rfl⟩
  · refine z_weq (w' := zPl (pR _) _ :: _) (congrArg (fun z => z :: _) (zrnP rfl)) ?_; exact K0 trivial
theorem cw_ppoly (Dg : va_G) (P : zPt) (t : Nat) (fp : Int32) (j n d : Nat) (f : Nat → Int32) (k : Nat) (hj : j < 8) (h : nok n d f) (hP : P j = some (nI n, nI d, f)) (hn : n ≤ 12) (hk : k ≤ n) (o_ : Nat → Int64) : zCtrWD Dg yX0_poly cX0_poly 5 (some .int) [(0, 9, 12, 13), (0, 9, 16, 22)] 9 323 7418 [zr 1 0, zi (nI j), zi (nI k), zr 22 0] ((xH P t fp) ++ [zAl 1 1 o_]) (fun r_ w_ => (∃ v_ w1_, (fun r w => r = some (zl ((plS n f n).1 k)) ∧ w = xH P t fp) (some v_) w1_ ∧ r_ = some (zi (nI 0)) ∧ w_ = w1_ ++ [zAl 1 1 (vp_updL o_ 0 (cvV v_))])) zNx := by
  refine z_startWD (by decide) [some (zr 1 0), some (zi (nI j)), some (zi (nI k)), some (zr 22 0), none] rfl (fun _ => Nat.le_of_ble_eq_true rfl) (fun _ => rfl) (fun X hD F E hT hin => ?_)
  subst hD
  have K0 : ∀ (_ : True), Z X [some (zr 1 0), some (zi (nI j)), some (zi (nI k)), some (zr 22 0), none] [zl ((plS n f n).1 k), zi (nI 0), zr 22 0] (xH P t fp ++ [zAl 1 1 o_]) 323 7418 8 := by
    intro _ 
    refine z_lastN F rfl (Nat.le_of_ble_eq_true rfl) (by omega) dX0_poly_8 ?_
    refine z_weq (w' := [_, _, _, _, _, _, _, _, _, _, _, _, _, _, _, _, _, _, _, _, _, _, _]) rfl ?_
    refine z_goto F (tgt := 20) dX0_poly_9 (by decide) ?_
    refine z_iconst F (nI 0) dX0_poly_20 rfl ?_
    exact z_iret F E rfl dX0_poly_21 (by omega) (by omega) (⟨_, _, ⟨rfl, rfl⟩, rfl, rfl⟩)
  refine z_aload_n F dX0_poly_0 rfl ?_
  refine z_iconst F (nI 0) dX0_poly_1 rfl ?_
  refine z_aload_n F dX0_poly_2 rfl ?_
  refine z_iload_n F dX0_poly_3 rfl ?_
  refine z_iload_n F dX0_poly_4 rfl ?_
  refine z_callV F (c_ppoly P t fp j n d f k hj h hP hn hk) 2 rfl (lw_V q880 q881 q882 q109 q883) (by decide +kernel) ⟨Nat.le_of_ble_eq_true rfl, Nat.le_of_ble_eq_true rfl⟩ ⟨by omega, by omega⟩ [0, 1, 2, 3, 4, 5, 6, 7, 8, 9, 10, 11, 12, 13, 14, 15, 16, 17, 18, 19, 20, 21] 23 ⟨rfl, rfl, rfl, ⟨Or.inr (congrArg some (zrnP rfl).symm), Or.inr rfl, Or.inl rfl, Or.inl rfl, Or.inl rfl, Or.inl rfl, Or.inl rfl, Or.inl rfl, Or.inl rfl, Or.inl rfl, Or.inl rfl, Or.inl rfl, Or.inl rfl, Or.inl rfl, Or.inl rfl, Or.inl rfl, Or.inl rfl, Or.inl rfl, Or.inl rfl, Or.inl rfl, Or.inl rfl, Or.inl rfl, trivial⟩⟩ (fun _ => rfl) (Nat.le_of_ble_eq_true rfl) ⟨⟨Or.inl rfl, Or.inl rfl, Or.inr trivial, Or.inr trivial, Or.inr trivial, Or.inr trivial, Or.inr trivial, Or.inr trivial, Or.inr trivial, Or.inr trivial, Or.inr trivial, Or.inr trivial, Or.inr trivial, Or.inr trivial, Or.inr trivial, Or.inr trivial, Or.inr trivial, Or.inr trivial, Or.inr trivial, Or.inr trivial, Or.inr trivial, Or.inr trivial, Or.inr trivial, trivial⟩, rfl, rfl, rfl, Nat.le_of_ble_eq_true rfl⟩ rfl zC1 rfl rfl dX0_poly_5 (fun r_5 w_5 hp => ?_) (fun _ _ h => h.elim)
  rcases hp with ⟨rfl, rfl⟩
  · refine z_weq (w' := zPl (pR _) _ :: _) (congrArg (fun z => z :: _) (zrnP rfl)) ?_; exact K0 trivial
theorem cw_ppoly_bad (Dg : va_G) (P : zPt) (t : Nat) (fp : Int32) (j n d : Nat) (f : Nat → Int32) (x : Int32) (hj : j < 8) (h : nok n d f) (hP : P j = some (nI n, nI d, f)) (hx : inB x (nI 0) (nI n) = false) (o_ : Nat → Int64) : zCtrWD Dg yX0_poly cX0_poly 5 (some .int) [(0, 9, 12, 13), (0, 9, 16, 22)] 9 323 7418 [zr 1 0, zi (nI j), zi x, zr 22 0] ((xH P t fp) ++ [zAl 1 1 o_]) (fun r_ w_ => (∃ v_ w1_, (fun r w => False) (some v_) w1_ ∧ r_ = some (zi (nI 0)) ∧ w_ = w1_ ++ [zAl 1 1 (vp_updL o_ 0 (cvV v_))]) ∨ (∃ E_ w1_, (fun E w => E = eNSE ∧ True ∧ w = xH P t fp) E_ w1_ ∧ r_ = some (zi (nI 1)) ∧ w_ = w1_ ++ [zAl 1 1 o_])) zNx := by
  refine z_startWD (by decide) [some (zr 1 0), some (zi (nI j)), some (zi x), some (zr 22 0), none] rfl (fun _ => Nat.le_of_ble_eq_true rfl) (fun _ => rfl) (fun X hD F E hT hin => ?_)
  subst hD
  have hH : ∀ (k0 n0 : Nat), k0 ≤ 323 → n0 ≤ 7418 → (True) → Z X [some (zr 1 0), some (zi (nI j)), some (zi x), some (zr 22 0), none] [zr 23 0] (xH P t fp ++ [zAl 1 1 o_]) k0 n0 12 := by
    intro k0 n0  hk0 hn0 h_2
    refine z_astore F dX0_poly_12 (Nat.le_of_ble_eq_true rfl) ?_
    refine z_leq (L' := [_, _, _, _, _]) rfl ?_
    refine z_iconst F (nI 1) dX0_poly_14 rfl ?_
    exact z_iret F E rfl dX0_poly_15 (by omega) (by omega) (Or.inr ⟨_, _, ⟨rfl, h_2, rfl⟩, rfl, rfl⟩)
  refine z_aload_n F dX0_poly_0 rfl ?_
  refine z_iconst F (nI 0) dX0_poly_1 rfl ?_
  refine z_aload_n F dX0_poly_2 rfl ?_
  refine z_iload_n F dX0_poly_3 rfl ?_
  refine z_iload_n F dX0_poly_4 rfl ?_
  refine z_callV F (c_ppoly_bad P t fp j n d f x hj h hP hx) 2 rfl (lw_V q880 q881 q882 q109 q883) (by decide +kernel) ⟨Nat.le_of_ble_eq_true rfl, Nat.le_of_ble_eq_true rfl⟩ ⟨by omega, by omega⟩ [0, 1, 2, 3, 4, 5, 6, 7, 8, 9, 10, 11, 12, 13, 14, 15, 16, 17, 18, 19, 20, 21] 23 ⟨rfl, rfl, rfl, ⟨Or.inr (congrArg some (zrnP rfl).symm), Or.inr rfl, Or.inl rfl, Or.inl rfl, Or.inl rfl, Or.inl rfl, Or.inl rfl, Or.inl rfl, Or.inl rfl, Or.inl rfl, Or.inl rfl, Or.inl rfl, Or.inl rfl, Or.inl rfl, Or.inl rfl, Or.inl rfl, Or.inl rfl, Or.inl rfl, Or.inl rfl, Or.inl rfl, Or.inl rfl, Or.inl rfl, trivial⟩⟩ (fun _ => rfl) (Nat.le_of_ble_eq_true rfl) ⟨⟨Or.inl rfl, Or.inl rfl, Or.inr trivial, Or.inr trivial, Or.inr trivial, Or.inr trivial, Or.inr trivial, Or.inr trivial, Or.inr trivial, Or.inr trivial, Or.inr trivial, Or.inr trivial, Or.inr trivial, Or.inr trivial, Or.inr trivial, Or.inr trivial, Or.inr trivial, Or.inr trivial, Or.inr trivial, Or.inr trivial, Or.inr trivial, Or.inr trivial, Or.inr trivial, trivial⟩, rfl, rfl, rfl, Nat.le_of_ble_eq_true rfl⟩ rfl zC1 rfl rfl dX0_poly_5 (fun r_5 w_5 hp => ?_) (fun E_ w_ hx => by obtain ⟨rfl, h_2, rfl⟩ := hx; exact zx_catch F hT [] ⟨0, 9, 12, 13⟩ [⟨0, 9, 16, 22⟩] rfl (fun _ h => nomatch h) (by decide) (by decide) lw_nse (z_weq (w' := zPl (pR _) _ :: _) (congrArg (fun z => z :: _) (zrnP rfl)) (hH _ _  (by omega) (by omega) h_2)))
  exact hp.elim
theorem cw_ppoly_big (Dg : va_G) (P : zPt) (t : Nat) (fp : Int32) (j n d : Nat) (f : Nat → Int32) (k : Nat) (hj : j < 8) (h : nok n d f) (hP : P j = some (nI n, nI d, f)) (hn : 12 < n) (hk : k ≤ n) (o_ : Nat → Int64) : zCtrWD Dg yX0_poly cX0_poly 5 (some .int) [(0, 9, 12, 13), (0, 9, 16, 22)] 9 323 7418 [zr 1 0, zi (nI j), zi (nI k), zr 22 0] ((xH P t fp) ++ [zAl 1 1 o_]) (fun r_ w_ => (∃ v_ w1_, (fun r w => False) (some v_) w1_ ∧ r_ = some (zi (nI 0)) ∧ w_ = w1_ ++ [zAl 1 1 (vp_updL o_ 0 (cvV v_))]) ∨ (∃ E_ w1_, (fun E w => E = eIAE ∧ True ∧ w = xH P t fp) E_ w1_ ∧ r_ = some (zi (nI 2)) ∧ w_ = w1_ ++ [zAl 1 1 o_])) zNx := by
  refine z_startWD (by decide) [some (zr 1 0), some (zi (nI j)), some (zi (nI k)), some (zr 22 0), none] rfl (fun _ => Nat.le_of_ble_eq_true rfl) (fun _ => rfl) (fun X hD F E hT hin => ?_)
  subst hD
  have hH : ∀ (k0 n0 : Nat), k0 ≤ 323 → n0 ≤ 7418 → (True) → Z X [some (zr 1 0), some (zi (nI j)), some (zi (nI k)), some (zr 22 0), none] [zr 23 0] (xH P t fp ++ [zAl 1 1 o_]) k0 n0 16 := by
    intro k0 n0  hk0 hn0 h_2
    refine z_astore F dX0_poly_16 (Nat.le_of_ble_eq_true rfl) ?_
    refine z_leq (L' := [_, _, _, _, _]) rfl ?_
    refine z_iconst F (nI 2) dX0_poly_18 rfl ?_
    exact z_iret F E rfl dX0_poly_19 (by omega) (by omega) (Or.inr ⟨_, _, ⟨rfl, h_2, rfl⟩, rfl, rfl⟩)
  refine z_aload_n F dX0_poly_0 rfl ?_
  refine z_iconst F (nI 0) dX0_poly_1 rfl ?_
  refine z_aload_n F dX0_poly_2 rfl ?_
  refine z_iload_n F dX0_poly_3 rfl ?_
  refine z_iload_n F dX0_poly_4 rfl ?_
  refine z_callV F (c_ppoly_big P t fp j n d f k hj h hP hn hk) 2 rfl (lw_V q880 q881 q882 q109 q883) (by decide +kernel) ⟨Nat.le_of_ble_eq_true rfl, Nat.le_of_ble_eq_true rfl⟩ ⟨by omega, by omega⟩ [0, 1, 2, 3, 4, 5, 6, 7, 8, 9, 10, 11, 12, 13, 14, 15, 16, 17, 18, 19, 20, 21] 23 ⟨rfl, rfl, rfl, ⟨Or.inr (congrArg some (zrnP rfl).symm), Or.inr rfl, Or.inl rfl, Or.inl rfl, Or.inl rfl, Or.inl rfl, Or.inl rfl, Or.inl rfl, Or.inl rfl, Or.inl rfl, Or.inl rfl, Or.inl rfl, Or.inl rfl, Or.inl rfl, Or.inl rfl, Or.inl rfl, Or.inl rfl, Or.inl rfl, Or.inl rfl, Or.inl rfl, Or.inl rfl, Or.inl rfl, trivial⟩⟩ (fun _ => rfl) (Nat.le_of_ble_eq_true rfl) ⟨⟨Or.inl rfl, Or.inl rfl, Or.inr trivial, Or.inr trivial, Or.inr trivial, Or.inr trivial, Or.inr trivial, Or.inr trivial, Or.inr trivial, Or.inr trivial, Or.inr trivial, Or.inr trivial, Or.inr trivial, Or.inr trivial, Or.inr trivial, Or.inr trivial, Or.inr trivial, Or.inr trivial, Or.inr trivial, Or.inr trivial, Or.inr trivial, Or.inr trivial, Or.inr trivial, trivial⟩, rfl, rfl, rfl, Nat.le_of_ble_eq_true rfl⟩ rfl zC1 rfl rfl dX0_poly_5 (fun r_5 w_5 hp => ?_) (fun E_ w_ hx => by obtain ⟨rfl, h_2, rfl⟩ := hx; exact zx_catch2 F hT ⟨0, 9, 12, 13⟩ ⟨0, 9, 16, 22⟩ rfl (by decide) (by decide) (by decide) lw_nse lw_iae (z_weq (w' := zPl (pR _) _ :: _) (congrArg (fun z => z :: _) (zrnP rfl)) (hH _ _  (by omega) (by omega) h_2)))
  exact hp.elim
theorem cw_pabove (Dg : va_G) (P : zPt) (t : Nat) (fp : Int32) (j n d : Nat) (f : Nat → Int32) (x : Int32) (hj : j < 8) (h : nok n d f) (hP : P j = some (nI n, nI d, f)) (hn : n ≤ 12) (hx : inB x (-12) (nI 12) = true) (o_ : Nat → Int64) : zCtrWD Dg yX0_above cX0_above 5 (some .int) [(0, 10, 13, 13), (0, 10, 17, 22)] 9 323 7418 [zr 1 0, zi (nI j), zi x, zr 22 0] ((xH P t fp) ++ [zAl 1 1 o_]) (fun r_ w_ => (∃ v_ w1_, (fun r w => r = some (zi (nI (scS n (shO n x.toInt64 (plS n f n).1 n) n).1)) ∧ w = xH P t fp) (some v_) w1_ ∧ r_ = some (zi (nI 0)) ∧ w_ = w1_ ++ [zAl 1 1 (vp_updL o_ 0 (cvV v_))])) zNx := by
  refine z_startWD (by decide) [some (zr 1 0), some (zi (nI j)), some (zi x), some (zr 22 0), none] rfl (fun _ => Nat.le_of_ble_eq_true rfl) (fun _ => rfl) (fun X hD F E hT hin => ?_)
  subst hD
  have K0 : ∀ (_ : True), Z X [some (zr 1 0), some (zi (nI j)), some (zi x), some (zr 22 0), none] [zi (nI (scS n (shO n x.toInt64 (plS n f n).1 n) n).1), zi (nI 0), zr 22 0] (xH P t fp ++ [zAl 1 1 o_]) 323 7418 8 := by
    intro _ 
    refine z_i2l F dX0_above_8 ?_
    refine z_lastN F rfl (Nat.le_of_ble_eq_true rfl) (by omega) dX0_above_9 ?_
    refine z_weq (w' := [_, _, _, _, _, _, _, _, _, _, _, _, _, _, _, _, _, _, _, _, _, _, _]) rfl ?_
    refine z_goto F (tgt := 21) dX0_above_10 (by decide) ?_
    refine z_iconst F (nI 0) dX0_above_21 rfl ?_
    exact z_iret F E rfl dX0_above_22 (by omega) (by omega) (⟨_, _, ⟨rfl, rfl⟩, rfl, rfl⟩)
  refine z_aload_n F dX0_above_0 rfl ?_
  refine z_iconst F (nI 0) dX0_above_1 rfl ?_
  refine z_aload_n F dX0_above_2 rfl ?_
  refine z_iload_n F dX0_above_3 rfl ?_
  refine z_iload_n F dX0_above_4 rfl ?_
  refine z_callV F (c_pabove P t fp j n d f x hj h hP hn hx) 2 rfl (lw_V q897 q898 q899 q109 q900) (by decide +kernel) ⟨Nat.le_of_ble_eq_true rfl, Nat.le_of_ble_eq_true rfl⟩ ⟨by omega, by omega⟩ [0, 1, 2, 3, 4, 5, 6, 7, 8, 9, 10, 11, 12, 13, 14, 15, 16, 17, 18, 19, 20, 21] 23 ⟨rfl, rfl, rfl, ⟨Or.inr (congrArg some (zrnP rfl).symm), Or.inr rfl, Or.inl rfl, Or.inl rfl, Or.inl rfl, Or.inl rfl, Or.inl rfl, Or.inl rfl, Or.inl rfl, Or.inl rfl, Or.inl rfl, Or.inl rfl, Or.inl rfl, Or.inl rfl, Or.inl rfl, Or.inl rfl, Or.inl rfl, Or.inl rfl, Or.inl rfl, Or.inl rfl, Or.inl rfl, Or.inl rfl, trivial⟩⟩ (fun _ => rfl) (Nat.le_of_ble_eq_true rfl) ⟨⟨Or.inl rfl, Or.inl rfl, Or.inr trivial, Or.inr trivial, Or.inr trivial, Or.inr trivial, Or.inr trivial, Or.inr trivial, Or.inr trivial, Or.inr trivial, Or.inr trivial, Or.inr trivial, Or.inr trivial, Or.inr trivial, Or.inr trivial, Or.inr trivial, Or.inr trivial, Or.inr trivial, Or.inr trivial, Or.inr trivial, Or.inr trivial, Or.inr trivial, Or.inr trivial, trivial⟩, rfl, rfl, rfl, Nat.le_of_ble_eq_true rfl⟩ rfl zC1 rfl rfl dX0_above_5 (fun r_5 w_5 hp => ?_) (fun _ _ h => h.elim)
  rcases hp with ⟨rfl, rfl⟩
  · refine z_weq (w' := zPl (pR _) _ :: _) (congrArg (fun z => z :: _) (zrnP rfl)) ?_; exact K0 trivial
theorem cw_pabove_bad (Dg : va_G) (P : zPt) (t : Nat) (fp : Int32) (j n d : Nat) (f : Nat → Int32) (x : Int32) (hj : j < 8) (h : nok n d f) (hP : P j = some (nI n, nI d, f)) (hx : (decide (n ≤ 12) && inB x (-12) (nI 12)) = false) (o_ : Nat → Int64) : zCtrWD Dg yX0_above cX0_above 5 (some .int) [(0, 10, 13, 13), (0, 10, 17, 22)] 9 323 7418 [zr 1 0, zi (nI j), zi x, zr 22 0] ((xH P t fp) ++ [zAl 1 1 o_]) (fun r_ w_ => (∃ v_ w1_, (fun r w => False) (some v_) w1_ ∧ r_ = some (zi (nI 0)) ∧ w_ = w1_ ++ [zAl 1 1 (vp_updL o_ 0 (cvV v_))]) ∨ (∃ E_ w1_, (fun E w => E = eIAE ∧ True ∧ w = xH P t fp) E_ w1_ ∧ r_ = some (zi (nI 2)) ∧ w_ = w1_ ++ [zAl 1 1 o_])) zNx := by
  refine z_startWD (by decide) [some (zr 1 0), some (zi (nI j)), some (zi x), some (zr 22 0), none] rfl (fun _ => Nat.le_of_ble_eq_true rfl) (fun _ => rfl) (fun X hD F E hT hin => ?_)
  subst hD
  have hH : ∀ (k0 n0 : Nat), k0 ≤ 323 → n0 ≤ 7418 → (True) → Z X [some (zr 1 0), some (zi (nI j)), some (zi x), some (zr 22 0), none] [zr 23 0] (xH P t fp ++ [zAl 1 1 o_]) k0 n0 17 := by
    intro k0 n0  hk0 hn0 h_2
    refine z_astore F dX0_above_17 (Nat.le_of_ble_eq_true rfl) ?_
    refine z_leq (L' := [_, _, _, _, _]) rfl ?_
    refine z_iconst F (nI 2) dX0_above_19 rfl ?_
    exact z_iret F E rfl dX0_above_20 (by omega) (by omega) (Or.inr ⟨_, _, ⟨rfl, h_2, rfl⟩, rfl, rfl⟩)
  refine z_aload_n F dX0_above_0 rfl ?_
  refine z_iconst F (nI 0) dX0_above_1 rfl ?_
  refine z_aload_n F dX0_above_2 rfl ?_
  refine z_iload_n F dX0_above_3 rfl ?_
  refine z_iload_n F dX0_above_4 rfl ?_
  refine z_callV F (c_pabove_bad P t fp j n d f x hj h hP hx) 2 rfl (lw_V q897 q898 q899 q109 q900) (by decide +kernel) ⟨Nat.le_of_ble_eq_true rfl, Nat.le_of_ble_eq_true rfl⟩ ⟨by omega, by omega⟩ [0, 1, 2, 3, 4, 5, 6, 7, 8, 9, 10, 11, 12, 13, 14, 15, 16, 17, 18, 19, 20, 21] 23 ⟨rfl, rfl, rfl, ⟨Or.inr (congrArg some (zrnP rfl).symm), Or.inr rfl, Or.inl rfl, Or.inl rfl, Or.inl rfl, Or.inl rfl, Or.inl rfl, Or.inl rfl, Or.inl rfl, Or.inl rfl, Or.inl rfl, Or.inl rfl, Or.inl rfl, Or.inl rfl, Or.inl rfl, Or.inl rfl, Or.inl rfl, Or.inl rfl, Or.inl rfl, Or.inl rfl, Or.inl rfl, Or.inl rfl, trivial⟩⟩ (fun _ => rfl) (Nat.le_of_ble_eq_true rfl) ⟨⟨Or.inl rfl, Or.inl rfl, Or.inr trivial, Or.inr trivial, Or.inr trivial, Or.inr trivial, Or.inr trivial, Or.inr trivial, Or.inr trivial, Or.inr trivial, Or.inr trivial, Or.inr trivial, Or.inr trivial, Or.inr trivial, Or.inr trivial, Or.inr trivial, Or.inr trivial, Or.inr trivial, Or.inr trivial, Or.inr trivial, Or.inr trivial, Or.inr trivial, Or.inr trivial, trivial⟩, rfl, rfl, rfl, Nat.le_of_ble_eq_true rfl⟩ rfl zC1 rfl rfl dX0_above_5 (fun r_5 w_5 hp => ?_) (fun E_ w_ hx => by obtain ⟨rfl, h_2, rfl⟩ := hx; exact zx_catch2 F hT ⟨0, 10, 13, 13⟩ ⟨0, 10, 17, 22⟩ rfl (by decide) (by decide) (by decide) lw_nse lw_iae (z_weq (w' := zPl (pR _) _ :: _) (congrArg (fun z => z :: _) (zrnP rfl)) (hH _ _  (by omega) (by omega) h_2)))
  exact hp.elim
theorem cw_pwalks (Dg : va_G) (P : zPt) (t : Nat) (fp : Int32) (j n d : Nat) (f : Nat → Int32) (k : Nat) (hj : j < 8) (h : nok n d f) (hP : P j = some (nI n, nI d, f)) (hk : k ≤ 10) (o_ : Nat → Int64) : zCtrWD Dg yX0_walks cX0_walks 5 (some .int) [(0, 9, 12, 13), (0, 9, 16, 22)] 9 278 6618 [zr 1 0, zi (nI j), zi (nI k), zr 22 0] ((xH P t fp) ++ [zAl 1 1 o_]) (fun r_ w_ => (∃ v_ w1_, (fun r w => r = some (zl (ltr (tkS n f k) n)) ∧ w = xH P t fp) (some v_) w1_ ∧ r_ = some (zi (nI 0)) ∧ w_ = w1_ ++ [zAl 1 1 (vp_updL o_ 0 (cvV v_))])) zNx := by
  refine z_startWD (by decide) [some (zr 1 0), some (zi (nI j)), some (zi (nI k)), some (zr 22 0), none] rfl (fun _ => Nat.le_of_ble_eq_true rfl) (fun _ => rfl) (fun X hD F E hT hin => ?_)
  subst hD
  have K0 : ∀ (_ : True), Z X [some (zr 1 0), some (zi (nI j)), some (zi (nI k)), some (zr 22 0), none] [zl (ltr (tkS n f k) n), zi (nI 0), zr 22 0] (xH P t fp ++ [zAl 1 1 o_]) 278 6618 8 := by
    intro _ 
    refine z_lastN F rfl (Nat.le_of_ble_eq_true rfl) (by omega) dX0_walks_8 ?_
    refine z_weq (w' := [_, _, _, _, _, _, _, _, _, _, _, _, _, _, _, _, _, _, _, _, _, _, _]) rfl ?_
    refine z_goto F (tgt := 20) dX0_walks_9 (by decide) ?_
    refine z_iconst F (nI 0) dX0_walks_20 rfl ?_
    exact z_iret F E rfl dX0_walks_21 (by omega) (by omega) (⟨_, _, ⟨rfl, rfl⟩, rfl, rfl⟩)
  refine z_aload_n F dX0_walks_0 rfl ?_
  refine z_iconst F (nI 0) dX0_walks_1 rfl ?_
  refine z_aload_n F dX0_walks_2 rfl ?_
  refine z_iload_n F dX0_walks_3 rfl ?_
  refine z_iload_n F dX0_walks_4 rfl ?_
  refine z_callV F (c_pwalks P t fp j n d f k hj h hP hk) 2 rfl (lw_V q908 q909 q910 q109 q911) (by decide +kernel) ⟨Nat.le_of_ble_eq_true rfl, Nat.le_of_ble_eq_true rfl⟩ ⟨by omega, by omega⟩ [0, 1, 2, 3, 4, 5, 6, 7, 8, 9, 10, 11, 12, 13, 14, 15, 16, 17, 18, 19, 20, 21] 23 ⟨rfl, rfl, rfl, ⟨Or.inr (congrArg some (zrnP rfl).symm), Or.inr rfl, Or.inl rfl, Or.inl rfl, Or.inl rfl, Or.inl rfl, Or.inl rfl, Or.inl rfl, Or.inl rfl, Or.inl rfl, Or.inl rfl, Or.inl rfl, Or.inl rfl, Or.inl rfl, Or.inl rfl, Or.inl rfl, Or.inl rfl, Or.inl rfl, Or.inl rfl, Or.inl rfl, Or.inl rfl, Or.inl rfl, trivial⟩⟩ (fun _ => rfl) (Nat.le_of_ble_eq_true rfl) ⟨⟨Or.inl rfl, Or.inl rfl, Or.inr trivial, Or.inr trivial, Or.inr trivial, Or.inr trivial, Or.inr trivial, Or.inr trivial, Or.inr trivial, Or.inr trivial, Or.inr trivial, Or.inr trivial, Or.inr trivial, Or.inr trivial, Or.inr trivial, Or.inr trivial, Or.inr trivial, Or.inr trivial, Or.inr trivial, Or.inr trivial, Or.inr trivial, Or.inr trivial, Or.inr trivial, trivial⟩, rfl, rfl, rfl, Nat.le_of_ble_eq_true rfl⟩ rfl zC1 rfl rfl dX0_walks_5 (fun r_5 w_5 hp => ?_) (fun _ _ h => h.elim)
  rcases hp with ⟨rfl, rfl⟩
  · refine z_weq (w' := zPl (pR _) _ :: _) (congrArg (fun z => z :: _) (zrnP rfl)) ?_; exact K0 trivial
theorem cw_pwalks_bad (Dg : va_G) (P : zPt) (t : Nat) (fp : Int32) (j n d : Nat) (f : Nat → Int32) (x : Int32) (hj : j < 8) (h : nok n d f) (hP : P j = some (nI n, nI d, f)) (hx : inB x (nI 0) (nI 10) = false) (o_ : Nat → Int64) : zCtrWD Dg yX0_walks cX0_walks 5 (some .int) [(0, 9, 12, 13), (0, 9, 16, 22)] 9 278 6618 [zr 1 0, zi (nI j), zi x, zr 22 0] ((xH P t fp) ++ [zAl 1 1 o_]) (fun r_ w_ => (∃ v_ w1_, (fun r w => False) (some v_) w1_ ∧ r_ = some (zi (nI 0)) ∧ w_ = w1_ ++ [zAl 1 1 (vp_updL o_ 0 (cvV v_))]) ∨ (∃ E_ w1_, (fun E w => E = eIAE ∧ True ∧ w = xH P t fp) E_ w1_ ∧ r_ = some (zi (nI 2)) ∧ w_ = w1_ ++ [zAl 1 1 o_])) zNx := by
  refine z_startWD (by decide) [some (zr 1 0), some (zi (nI j)), some (zi x), some (zr 22 0), none] rfl (fun _ => Nat.le_of_ble_eq_true rfl) (fun _ => rfl) (fun X hD F E hT hin => ?_)
  subst hD
  have hH : ∀ (k0 n0 : Nat), k0 ≤ 278 → n0 ≤ 6618 → (True) → Z X [some (zr 1 0), some (zi (nI j)), some (zi x), some (zr 22 0), none] [zr 23 0] (xH P t fp ++ [zAl 1 1 o_]) k0 n0 16 := by
    intro k0 n0  hk0 hn0 h_2
    refine z_astore F dX0_walks_16 (Nat.le_of_ble_eq_true rfl) ?_
    refine z_leq (L' := [_, _, _, _, _]) rfl ?_
    refine z_iconst F (nI 2) dX0_walks_18 rfl ?_
    exact z_iret F E rfl dX0_walks_19 (by omega) (by omega) (Or.inr ⟨_, _, ⟨rfl, h_2, rfl⟩, rfl, rfl⟩)
  refine z_aload_n F dX0_walks_0 rfl ?_
  refine z_iconst F (nI 0) dX0_walks_1 rfl ?_
  refine z_aload_n F dX0_walks_2 rfl ?_
  refine z_iload_n F dX0_walks_3 rfl ?_
  refine z_iload_n F dX0_walks_4 rfl ?_
  refine z_callV F (c_pwalks_bad P t fp j n d f x hj h hP hx) 2 rfl (lw_V q908 q909 q910 q109 q911) (by decide +kernel) ⟨Nat.le_of_ble_eq_true rfl, Nat.le_of_ble_eq_true rfl⟩ ⟨by omega, by omega⟩ [0, 1, 2, 3, 4, 5, 6, 7, 8, 9, 10, 11, 12, 13, 14, 15, 16, 17, 18, 19, 20, 21] 23 ⟨rfl, rfl, rfl, ⟨Or.inr (congrArg some (zrnP rfl).symm), Or.inr rfl, Or.inl rfl, Or.inl rfl, Or.inl rfl, Or.inl rfl, Or.inl rfl, Or.inl rfl, Or.inl rfl, Or.inl rfl, Or.inl rfl, Or.inl rfl, Or.inl rfl, Or.inl rfl, Or.inl rfl, Or.inl rfl, Or.inl rfl, Or.inl rfl, Or.inl rfl, Or.inl rfl, Or.inl rfl, Or.inl rfl, trivial⟩⟩ (fun _ => rfl) (Nat.le_of_ble_eq_true rfl) ⟨⟨Or.inl rfl, Or.inl rfl, Or.inr trivial, Or.inr trivial, Or.inr trivial, Or.inr trivial, Or.inr trivial, Or.inr trivial, Or.inr trivial, Or.inr trivial, Or.inr trivial, Or.inr trivial, Or.inr trivial, Or.inr trivial, Or.inr trivial, Or.inr trivial, Or.inr trivial, Or.inr trivial, Or.inr trivial, Or.inr trivial, Or.inr trivial, Or.inr trivial, Or.inr trivial, trivial⟩, rfl, rfl, rfl, Nat.le_of_ble_eq_true rfl⟩ rfl zC1 rfl rfl dX0_walks_5 (fun r_5 w_5 hp => ?_) (fun E_ w_ hx => by obtain ⟨rfl, h_2, rfl⟩ := hx; exact zx_catch2 F hT ⟨0, 9, 12, 13⟩ ⟨0, 9, 16, 22⟩ rfl (by decide) (by decide) (by decide) lw_nse lw_iae (z_weq (w' := zPl (pR _) _ :: _) (congrArg (fun z => z :: _) (zrnP rfl)) (hH _ _  (by omega) (by omega) h_2)))
  exact hp.elim
theorem cw_phop (Dg : va_G) (P : zPt) (t : Nat) (fp : Int32) (j n d : Nat) (f : Nat → Int32) (a b : Int32) (hj : j < 8) (h : nok n d f) (hP : P j = some (nI n, nI d, f)) (o_ : Nat → Int64) : zCtrWD Dg yX0_hop cX0_hop 6 (some .int) [(0, 12, 15, 13)] 9 114 2627 [zr 1 0, zi (nI j), zi a, zi b, zr 22 0] ((xH P t fp) ++ [zAl 1 1 o_]) (fun r_ w_ => (∃ v_ w1_, (fun r w => ∃ a' b', a' < n ∧ b' < n ∧ a = nI a' ∧ b = nI b' ∧ r = some (zi (if cjn n f = true then hpI n f a' b' else -1)) ∧ w = xH P t fp) (some v_) w1_ ∧ r_ = some (zi (nI 0)) ∧ w_ = w1_ ++ [zAl 1 1 (vp_updL o_ 0 (cvV v_))]) ∨ (∃ E_ w1_, (fun E w => E = eNSE ∧ (knB n a && knB n b) = false ∧ w = xH P t fp) E_ w1_ ∧ r_ = some (zi (nI 1)) ∧ w_ = w1_ ++ [zAl 1 1 o_])) zNx := by
  refine z_startWD (by decide) [some (zr 1 0), some (zi (nI j)), some (zi a), some (zi b), some (zr 22 0), none] rfl (fun _ => Nat.le_of_ble_eq_true rfl) (fun _ => rfl) (fun X hD F E hT hin => ?_)
  subst hD
  have K0 : ∀ a' b', (a' < n) → (b' < n) → (a = nI a') → (b = nI b') → Z X [some (zr 1 0), some (zi (nI j)), some (zi a), some (zi b), some (zr 22 0), none] [zi (if cjn n f = true then hpI n f a' b' else -1), zi (nI 0), zr 22 0] (xH P t fp ++ [zAl 1 1 o_]) 114 2627 10 := by
    intro a' b' h_1 h_2 h_3 h_4
    refine z_i2l F dX0_hop_10 ?_
    refine z_lastN F rfl (Nat.le_of_ble_eq_true rfl) (by omega) dX0_hop_11 ?_
    refine z_weq (w' := [_, _, _, _, _, _, _, _, _, _, _, _, _, _, _, _, _, _, _, _, _, _, _]) rfl ?_
    refine z_goto F (tgt := 19) dX0_hop_12 (by decide) ?_
    refine z_iconst F (nI 0) dX0_hop_19 rfl ?_
    exact z_iret F E rfl dX0_hop_20 (by omega) (by omega) (Or.inl ⟨_, _, ⟨a', b', h_1, h_2, h_3, h_4, rfl, rfl⟩, rfl, rfl⟩)
  have hH : ∀ (k0 n0 : Nat), k0 ≤ 114 → n0 ≤ 2627 → ((knB n a && knB n b) = false) → Z X [some (zr 1 0), some (zi (nI j)), some (zi a), some (zi b), some (zr 22 0), none] [zr 23 0] (xH P t fp ++ [zAl 1 1 o_]) k0 n0 15 := by
    intro k0 n0  hk0 hn0 h_5
    refine z_astore F dX0_hop_15 (Nat.le_of_ble_eq_true rfl) ?_
    refine z_leq (L' := [_, _, _, _, _, _]) rfl ?_
    refine z_iconst F (nI 1) dX0_hop_17 rfl ?_
    exact z_iret F E rfl dX0_hop_18 (by omega) (by omega) (Or.inr ⟨_, _, ⟨rfl, h_5, rfl⟩, rfl, rfl⟩)
  refine z_aload F dX0_hop_0 rfl ?_
  refine z_iconst F (nI 0) dX0_hop_2 rfl ?_
  refine z_aload_n F dX0_hop_3 rfl ?_
  refine z_iload_n F dX0_hop_4 rfl ?_
  refine z_iload_n F dX0_hop_5 rfl ?_
  refine z_iload_n F dX0_hop_6 rfl ?_
  refine z_callV F (c_phop P t fp j n d f a b hj h hP) 3 rfl (lw_V q1292 q1293 q1294 q109 q1295) (by decide +kernel) ⟨Nat.le_of_ble_eq_true rfl, Nat.le_of_ble_eq_true rfl⟩ ⟨by omega, by omega⟩ [0, 1, 2, 3, 4, 5, 6, 7, 8, 9, 10, 11, 12, 13, 14, 15, 16, 17, 18, 19, 20, 21] 23 ⟨rfl, rfl, rfl, ⟨Or.inr (congrArg some (zrnP rfl).symm), Or.inr rfl, Or.inl rfl, Or.inl rfl, Or.inl rfl, Or.inl rfl, Or.inl rfl, Or.inl rfl, Or.inl rfl, Or.inl rfl, Or.inl rfl, Or.inl rfl, Or.inl rfl, Or.inl rfl, Or.inl rfl, Or.inl rfl, Or.inl rfl, Or.inl rfl, Or.inl rfl, Or.inl rfl, Or.inl rfl, Or.inl rfl, trivial⟩⟩ (fun _ => rfl) (Nat.le_of_ble_eq_true rfl) ⟨⟨Or.inl rfl, Or.inl rfl, Or.inr trivial, Or.inr trivial, Or.inr trivial, Or.inr trivial, Or.inr trivial, Or.inr trivial, Or.inr trivial, Or.inr trivial, Or.inr trivial, Or.inr trivial, Or.inr trivial, Or.inr trivial, Or.inr trivial, Or.inr trivial, Or.inr trivial, Or.inr trivial, Or.inr trivial, Or.inr trivial, Or.inr trivial, Or.inr trivial, Or.inr trivial, trivial⟩, rfl, rfl, rfl, Nat.le_of_ble_eq_true rfl⟩ rfl zC1 rfl rfl dX0_hop_7 (fun r_7 w_7 hp => ?_) (fun E_ w_ hx => by obtain ⟨rfl, h_5, rfl⟩ := hx; exact zx_catch F hT [] ⟨0, 12, 15, 13⟩ [] rfl (fun _ h => nomatch h) (by decide) (by decide) lw_nse (z_weq (w' := zPl (pR _) _ :: _) (congrArg (fun z => z :: _) (zrnP rfl)) (hH _ _  (by omega) (by omega) h_5)))
  rcases hp with ⟨a', b', h_1, h_2, h_3, h_4, rfl, rfl⟩
  · refine z_weq (w' := zPl (pR _) _ :: _) (congrArg (fun z => z :: _) (zrnP rfl)) ?_; exact K0 a' b' h_1 h_2 h_3 h_4
theorem cw_pload (Dg : va_G) (P : zPt) (t : Nat) (fp : Int32) (j n d : Nat) (f : Nat → Int32) (a b : Int32) (hj : j < 8) (h : nok n d f) (hP : P j = some (nI n, nI d, f)) (o_ : Nat → Int64) : zCtrWD Dg yX0_load cX0_load 6 (some .int) [(0, 12, 15, 13)] 9 114 2627 [zr 1 0, zi (nI j), zi a, zi b, zr 22 0] ((xH P t fp) ++ [zAl 1 1 o_]) (fun r_ w_ => (∃ v_ w1_, (fun r w => ∃ a' b', a' < n ∧ b' < n ∧ a = nI a' ∧ b = nI b' ∧ r = some (zi (if cjn n f = true then lall n f n a' b' else nI 0)) ∧ w = xH P t fp) (some v_) w1_ ∧ r_ = some (zi (nI 0)) ∧ w_ = w1_ ++ [zAl 1 1 (vp_updL o_ 0 (cvV v_))]) ∨ (∃ E_ w1_, (fun E w => E = eNSE ∧ (knB n a && knB n b) = false ∧ w = xH P t fp) E_ w1_ ∧ r_ = some (zi (nI 1)) ∧ w_ = w1_ ++ [zAl 1 1 o_])) zNx := by
  refine z_startWD (by decide) [some (zr 1 0), some (zi (nI j)), some (zi a), some (zi b), some (zr 22 0), none] rfl (fun _ => Nat.le_of_ble_eq_true rfl) (fun _ => rfl) (fun X hD F E hT hin => ?_)
  subst hD
  have K0 : ∀ a' b', (a' < n) → (b' < n) → (a = nI a') → (b = nI b') → Z X [some (zr 1 0), some (zi (nI j)), some (zi a), some (zi b), some (zr 22 0), none] [zi (if cjn n f = true then lall n f n a' b' else nI 0), zi (nI 0), zr 22 0] (xH P t fp ++ [zAl 1 1 o_]) 114 2627 10 := by
    intro a' b' h_1 h_2 h_3 h_4
    refine z_i2l F dX0_load_10 ?_
    refine z_lastN F rfl (Nat.le_of_ble_eq_true rfl) (by omega) dX0_load_11 ?_
    refine z_weq (w' := [_, _, _, _, _, _, _, _, _, _, _, _, _, _, _, _, _, _, _, _, _, _, _]) rfl ?_
    refine z_goto F (tgt := 19) dX0_load_12 (by decide) ?_
    refine z_iconst F (nI 0) dX0_load_19 rfl ?_
    exact z_iret F E rfl dX0_load_20 (by omega) (by omega) (Or.inl ⟨_, _, ⟨a', b', h_1, h_2, h_3, h_4, rfl, rfl⟩, rfl, rfl⟩)
  have hH : ∀ (k0 n0 : Nat), k0 ≤ 114 → n0 ≤ 2627 → ((knB n a && knB n b) = false) → Z X [some (zr 1 0), some (zi (nI j)), some (zi a), some (zi b), some (zr 22 0), none] [zr 23 0] (xH P t fp ++ [zAl 1 1 o_]) k0 n0 15 := by
    intro k0 n0  hk0 hn0 h_5
    refine z_astore F dX0_load_15 (Nat.le_of_ble_eq_true rfl) ?_
    refine z_leq (L' := [_, _, _, _, _, _]) rfl ?_
    refine z_iconst F (nI 1) dX0_load_17 rfl ?_
    exact z_iret F E rfl dX0_load_18 (by omega) (by omega) (Or.inr ⟨_, _, ⟨rfl, h_5, rfl⟩, rfl, rfl⟩)
  refine z_aload F dX0_load_0 rfl ?_
  refine z_iconst F (nI 0) dX0_load_2 rfl ?_
  refine z_aload_n F dX0_load_3 rfl ?_
  refine z_iload_n F dX0_load_4 rfl ?_
  refine z_iload_n F dX0_load_5 rfl ?_
  refine z_iload_n F dX0_load_6 rfl ?_
  refine z_callV F (c_pload P t fp j n d f a b hj h hP) 3 rfl (lw_V q1364 q1365 q1366 q109 q1367) (by decide +kernel) ⟨Nat.le_of_ble_eq_true rfl, Nat.le_of_ble_eq_true rfl⟩ ⟨by omega, by omega⟩ [0, 1, 2, 3, 4, 5, 6, 7, 8, 9, 10, 11, 12, 13, 14, 15, 16, 17, 18, 19, 20, 21] 23 ⟨rfl, rfl, rfl, ⟨Or.inr (congrArg some (zrnP rfl).symm), Or.inr rfl, Or.inl rfl, Or.inl rfl, Or.inl rfl, Or.inl rfl, Or.inl rfl, Or.inl rfl, Or.inl rfl, Or.inl rfl, Or.inl rfl, Or.inl rfl, Or.inl rfl, Or.inl rfl, Or.inl rfl, Or.inl rfl, Or.inl rfl, Or.inl rfl, Or.inl rfl, Or.inl rfl, Or.inl rfl, Or.inl rfl, trivial⟩⟩ (fun _ => rfl) (Nat.le_of_ble_eq_true rfl) ⟨⟨Or.inl rfl, Or.inl rfl, Or.inr trivial, Or.inr trivial, Or.inr trivial, Or.inr trivial, Or.inr trivial, Or.inr trivial, Or.inr trivial, Or.inr trivial, Or.inr trivial, Or.inr trivial, Or.inr trivial, Or.inr trivial, Or.inr trivial, Or.inr trivial, Or.inr trivial, Or.inr trivial, Or.inr trivial, Or.inr trivial, Or.inr trivial, Or.inr trivial, Or.inr trivial, trivial⟩, rfl, rfl, rfl, Nat.le_of_ble_eq_true rfl⟩ rfl zC1 rfl rfl dX0_load_7 (fun r_7 w_7 hp => ?_) (fun E_ w_ hx => by obtain ⟨rfl, h_5, rfl⟩ := hx; exact zx_catch F hT [] ⟨0, 12, 15, 13⟩ [] rfl (fun _ h => nomatch h) (by decide) (by decide) lw_nse (z_weq (w' := zPl (pR _) _ :: _) (congrArg (fun z => z :: _) (zrnP rfl)) (hH _ _  (by omega) (by omega) h_5)))
  rcases hp with ⟨a', b', h_1, h_2, h_3, h_4, rfl, rfl⟩
  · refine z_weq (w' := zPl (pR _) _ :: _) (congrArg (fun z => z :: _) (zrnP rfl)) ?_; exact K0 a' b' h_1 h_2 h_3 h_4
theorem cw_plocks (Dg : va_G) (P : zPt) (t : Nat) (fp : Int32) (j n d : Nat) (f : Nat → Int32) (hj : j < 8) (h : nok n d f) (hP : P j = some (nI n, nI d, f)) (o_ : Nat → Int64) : zCtrWD Dg yX0_locks cX0_locks 4 (some .int) [(0, 16, 19, 13)] 9 139 3227 [zr 1 0, zi (nI j), zr 22 0] ((xH P t fp) ++ [zAl 1 1 o_]) (fun r_ w_ => (∃ v_ w1_, (fun r w => r = some (zi (bI (cjn n f && lkV n f))) ∧ w = xH P t fp) (some v_) w1_ ∧ r_ = some (zi (nI 0)) ∧ w_ = w1_ ++ [zAl 1 1 (vp_updL o_ 0 (cvV v_))])) zNx := by
  refine z_startWD (by decide) [some (zr 1 0), some (zi (nI j)), some (zr 22 0), none] rfl (fun _ => Nat.le_of_ble_eq_true rfl) (fun _ => rfl) (fun X hD F E hT hin => ?_)
  subst hD
  have K0 : ∀ (_ : True), Z X [some (zr 1 0), some (zi (nI j)), some (zr 22 0), none] [zi (bI (cjn n f && lkV n f)), zi (nI 0), zr 22 0] (xH P t fp ++ [zAl 1 1 o_]) 139 3227 7 := by
    intro _ 
    refine z_if_eqB F (tgt := 14) dX0_locks_7 (by decide) (fun c_7 => ?_) (fun c_7 => ?_)
    · refine z_lconst F 0 dX0_locks_14 rfl ?_
      refine z_lastN F rfl (Nat.le_of_ble_eq_true rfl) (by omega) dX0_locks_15 ?_
      refine z_weq (w' := [_, _, _, _, _, _, _, _, _, _, _, _, _, _, _, _, _, _, _, _, _, _, _]) rfl ?_
      refine z_goto F (tgt := 22) dX0_locks_16 (by decide) ?_
      refine z_iconst F (nI 0) dX0_locks_22 rfl ?_
      exact z_iret F E rfl dX0_locks_23 (by omega) (by omega) (⟨_, _, ⟨rfl, rfl⟩, rfl, (by first | (rw [cvB, c_7]; rfl) | cases c_7 | rfl)⟩)
    · refine z_lconst F 1 dX0_locks_10 rfl ?_
      refine z_goto F (tgt := 15) dX0_locks_11 (by decide) ?_
      refine z_lastN F rfl (Nat.le_of_ble_eq_true rfl) (by omega) dX0_locks_15 ?_
      refine z_weq (w' := [_, _, _, _, _, _, _, _, _, _, _, _, _, _, _, _, _, _, _, _, _, _, _]) rfl ?_
      refine z_goto F (tgt := 22) dX0_locks_16 (by decide) ?_
      refine z_iconst F (nI 0) dX0_locks_22 rfl ?_
      exact z_iret F E rfl dX0_locks_23 (by omega) (by omega) (⟨_, _, ⟨rfl, rfl⟩, rfl, (by first | (rw [cvB, c_7]; rfl) | cases c_7 | rfl)⟩)
  refine z_aload_n F dX0_locks_0 rfl ?_
  refine z_iconst F (nI 0) dX0_locks_1 rfl ?_
  refine z_aload_n F dX0_locks_2 rfl ?_
  refine z_iload_n F dX0_locks_3 rfl ?_
  refine z_callV F (c_plocks P t fp j n d f hj h hP) 1 rfl (lw_V q1351 q1352 q1353 q109 q1354) (by decide +kernel) ⟨Nat.le_of_ble_eq_true rfl, Nat.le_of_ble_eq_true rfl⟩ ⟨by omega, by omega⟩ [0, 1, 2, 3, 4, 5, 6, 7, 8, 9, 10, 11, 12, 13, 14, 15, 16, 17, 18, 19, 20, 21] 23 ⟨rfl, rfl, rfl, ⟨Or.inr (congrArg some (zrnP rfl).symm), Or.inr rfl, Or.inl rfl, Or.inl rfl, Or.inl rfl, Or.inl rfl, Or.inl rfl, Or.inl rfl, Or.inl rfl, Or.inl rfl, Or.inl rfl, Or.inl rfl, Or.inl rfl, Or.inl rfl, Or.inl rfl, Or.inl rfl, Or.inl rfl, Or.inl rfl, Or.inl rfl, Or.inl rfl, Or.inl rfl, Or.inl rfl, trivial⟩⟩ (fun _ => rfl) (Nat.le_of_ble_eq_true rfl) ⟨⟨Or.inl rfl, Or.inl rfl, Or.inr trivial, Or.inr trivial, Or.inr trivial, Or.inr trivial, Or.inr trivial, Or.inr trivial, Or.inr trivial, Or.inr trivial, Or.inr trivial, Or.inr trivial, Or.inr trivial, Or.inr trivial, Or.inr trivial, Or.inr trivial, Or.inr trivial, Or.inr trivial, Or.inr trivial, Or.inr trivial, Or.inr trivial, Or.inr trivial, Or.inr trivial, trivial⟩, rfl, rfl, rfl, Nat.le_of_ble_eq_true rfl⟩ rfl zC1 rfl rfl dX0_locks_4 (fun r_4 w_4 hp => ?_) (fun _ _ h => h.elim)
  rcases hp with ⟨rfl, rfl⟩
  · refine z_weq (w' := zPl (pR _) _ :: _) (congrArg (fun z => z :: _) (zrnP rfl)) ?_; exact K0 trivial
theorem cw_pupward (Dg : va_G) (P : zPt) (t : Nat) (fp : Int32) (j n d : Nat) (f : Nat → Int32) (r : Int32) (u : Nat) (hj : j < 8) (h : nok n d f) (hP : P j = some (nI n, nI d, f)) (hu : u < 2) (o_ : Nat → Int64) : zCtrWD Dg yX0_upward cX0_upward 6 (some .int) [(0, 12, 15, 13)] 9 190 5700 [zr 1 0, zi (nI j), zi r, zi (nI u), zr 22 0] ((xH P t fp) ++ [zAl 1 1 o_]) (fun r_ w_ => (∃ v_ w1_, (fun r' w => ∃ r0, r0 < n ∧ r = nI r0 ∧ r' = some (zi (if cjn n f = true then (if u = 0 then uma n f r0 n else usa n f r0 n) else -1)) ∧ w = xH P t fp) (some v_) w1_ ∧ r_ = some (zi (nI 0)) ∧ w_ = w1_ ++ [zAl 1 1 (vp_updL o_ 0 (cvV v_))]) ∨ (∃ E_ w1_, (fun E w => E = eNSE ∧ knB n r = false ∧ w = xH P t fp) E_ w1_ ∧ r_ = some (zi (nI 1)) ∧ w_ = w1_ ++ [zAl 1 1 o_])) zNx := by
  refine z_startWD (by decide) [some (zr 1 0), some (zi (nI j)), some (zi r), some (zi (nI u)), some (zr 22 0), none] rfl (fun _ => Nat.le_of_ble_eq_true rfl) (fun _ => rfl) (fun X hD F E hT hin => ?_)
  subst hD
  have K0 : ∀ r0, (r0 < n) → (r = nI r0) → Z X [some (zr 1 0), some (zi (nI j)), some (zi r), some (zi (nI u)), some (zr 22 0), none] [zi (if cjn n f = true then (if u = 0 then uma n f r0 n else usa n f r0 n) else -1), zi (nI 0), zr 22 0] (xH P t fp ++ [zAl 1 1 o_]) 190 5700 10 := by
    intro r0 h_1 h_2
    refine z_i2l F dX0_upward_10 ?_
    refine z_lastN F rfl (Nat.le_of_ble_eq_true rfl) (by omega) dX0_upward_11 ?_
    refine z_weq (w' := [_, _, _, _, _, _, _, _, _, _, _, _, _, _, _, _, _, _, _, _, _, _, _]) rfl ?_
    refine z_goto F (tgt := 19) dX0_upward_12 (by decide) ?_
    refine z_iconst F (nI 0) dX0_upward_19 rfl ?_
    exact z_iret F E rfl dX0_upward_20 (by omega) (by omega) (Or.inl ⟨_, _, ⟨r0, h_1, h_2, rfl, rfl⟩, rfl, rfl⟩)
  have hH : ∀ (k0 n0 : Nat), k0 ≤ 190 → n0 ≤ 5700 → (knB n r = false) → Z X [some (zr 1 0), some (zi (nI j)), some (zi r), some (zi (nI u)), some (zr 22 0), none] [zr 23 0] (xH P t fp ++ [zAl 1 1 o_]) k0 n0 15 := by
    intro k0 n0  hk0 hn0 h_3
    refine z_astore F dX0_upward_15 (Nat.le_of_ble_eq_true rfl) ?_
    refine z_leq (L' := [_, _, _, _, _, _]) rfl ?_
    refine z_iconst F (nI 1) dX0_upward_17 rfl ?_
    exact z_iret F E rfl dX0_upward_18 (by omega) (by omega) (Or.inr ⟨_, _, ⟨rfl, h_3, rfl⟩, rfl, rfl⟩)
  refine z_aload F dX0_upward_0 rfl ?_
  refine z_iconst F (nI 0) dX0_upward_2 rfl ?_
  refine z_aload_n F dX0_upward_3 rfl ?_
  refine z_iload_n F dX0_upward_4 rfl ?_
  refine z_iload_n F dX0_upward_5 rfl ?_
  refine z_iload_n F dX0_upward_6 rfl ?_
  refine z_callV F (c_pupward P t fp j n d f r u hj h hP hu) 3 rfl (lw_V q1399 q1400 q1401 q109 q1402) (by decide +kernel) ⟨Nat.le_of_ble_eq_true rfl, Nat.le_of_ble_eq_true rfl⟩ ⟨by omega, by omega⟩ [0, 1, 2, 3, 4, 5, 6, 7, 8, 9, 10, 11, 12, 13, 14, 15, 16, 17, 18, 19, 20, 21] 23 ⟨rfl, rfl, rfl, ⟨Or.inr (congrArg some (zrnP rfl).symm), Or.inr rfl, Or.inl rfl, Or.inl rfl, Or.inl rfl, Or.inl rfl, Or.inl rfl, Or.inl rfl, Or.inl rfl, Or.inl rfl, Or.inl rfl, Or.inl rfl, Or.inl rfl, Or.inl rfl, Or.inl rfl, Or.inl rfl, Or.inl rfl, Or.inl rfl, Or.inl rfl, Or.inl rfl, Or.inl rfl, Or.inl rfl, trivial⟩⟩ (fun _ => rfl) (Nat.le_of_ble_eq_true rfl) ⟨⟨Or.inl rfl, Or.inl rfl, Or.inr trivial, Or.inr trivial, Or.inr trivial, Or.inr trivial, Or.inr trivial, Or.inr trivial, Or.inr trivial, Or.inr trivial, Or.inr trivial, Or.inr trivial, Or.inr trivial, Or.inr trivial, Or.inr trivial, Or.inr trivial, Or.inr trivial, Or.inr trivial, Or.inr trivial, Or.inr trivial, Or.inr trivial, Or.inr trivial, Or.inr trivial, trivial⟩, rfl, rfl, rfl, Nat.le_of_ble_eq_true rfl⟩ rfl zC1 rfl rfl dX0_upward_7 (fun r_7 w_7 hp => ?_) (fun E_ w_ hx => by obtain ⟨rfl, h_3, rfl⟩ := hx; exact zx_catch F hT [] ⟨0, 12, 15, 13⟩ [] rfl (fun _ h => nomatch h) (by decide) (by decide) lw_nse (z_weq (w' := zPl (pR _) _ :: _) (congrArg (fun z => z :: _) (zrnP rfl)) (hH _ _  (by omega) (by omega) h_3)))
  rcases hp with ⟨r0, h_1, h_2, rfl, rfl⟩
  · refine z_weq (w' := zPl (pR _) _ :: _) (congrArg (fun z => z :: _) (zrnP rfl)) ?_; exact K0 r0 h_1 h_2
theorem cw_pupward_bad (Dg : va_G) (P : zPt) (t : Nat) (fp : Int32) (j n d : Nat) (f : Nat → Int32) (r u : Int32) (hj : j < 8) (h : nok n d f) (hP : P j = some (nI n, nI d, f)) (hu : ∀ i, i < 2 → u ≠ nI i) (o_ : Nat → Int64) : zCtrWD Dg yX0_upward cX0_upward 6 (some .int) [(0, 12, 15, 13)] 9 190 5700 [zr 1 0, zi (nI j), zi r, zi u, zr 22 0] ((xH P t fp) ++ [zAl 1 1 o_]) (fun r_ w_ => (∃ v_ w1_, (fun r' w => False) (some v_) w1_ ∧ r_ = some (zi (nI 0)) ∧ w_ = w1_ ++ [zAl 1 1 (vp_updL o_ 0 (cvV v_))]) ∨ (∃ E_ w1_, (fun E w => E = eNSE ∧ True ∧ w = xH P t fp) E_ w1_ ∧ r_ = some (zi (nI 1)) ∧ w_ = w1_ ++ [zAl 1 1 o_])) zNx := by
  refine z_startWD (by decide) [some (zr 1 0), some (zi (nI j)), some (zi r), some (zi u), some (zr 22 0), none] rfl (fun _ => Nat.le_of_ble_eq_true rfl) (fun _ => rfl) (fun X hD F E hT hin => ?_)
  subst hD
  have hH : ∀ (k0 n0 : Nat), k0 ≤ 190 → n0 ≤ 5700 → (True) → Z X [some (zr 1 0), some (zi (nI j)), some (zi r), some (zi u), some (zr 22 0), none] [zr 23 0] (xH P t fp ++ [zAl 1 1 o_]) k0 n0 15 := by
    intro k0 n0  hk0 hn0 h_2
    refine z_astore F dX0_upward_15 (Nat.le_of_ble_eq_true rfl) ?_
    refine z_leq (L' := [_, _, _, _, _, _]) rfl ?_
    refine z_iconst F (nI 1) dX0_upward_17 rfl ?_
    exact z_iret F E rfl dX0_upward_18 (by omega) (by omega) (Or.inr ⟨_, _, ⟨rfl, h_2, rfl⟩, rfl, rfl⟩)
  refine z_aload F dX0_upward_0 rfl ?_
  refine z_iconst F (nI 0) dX0_upward_2 rfl ?_
  refine z_aload_n F dX0_upward_3 rfl ?_
  refine z_iload_n F dX0_upward_4 rfl ?_
  refine z_iload_n F dX0_upward_5 rfl ?_
  refine z_iload_n F dX0_upward_6 rfl ?_
  refine z_callV F (c_pupward_bad P t fp j n d f r u hj h hP hu) 3 rfl (lw_V q1399 q1400 q1401 q109 q1402) (by decide +kernel) ⟨Nat.le_of_ble_eq_true rfl, Nat.le_of_ble_eq_true rfl⟩ ⟨by omega, by omega⟩ [0, 1, 2, 3, 4, 5, 6, 7, 8, 9, 10, 11, 12, 13, 14, 15, 16, 17, 18, 19, 20, 21] 23 ⟨rfl, rfl, rfl, ⟨Or.inr (congrArg some (zrnP rfl).symm), Or.inr rfl, Or.inl rfl, Or.inl rfl, Or.inl rfl, Or.inl rfl, Or.inl rfl, Or.inl rfl, Or.inl rfl, Or.inl rfl, Or.inl rfl, Or.inl rfl, Or.inl rfl, Or.inl rfl, Or.inl rfl, Or.inl rfl, Or.inl rfl, Or.inl rfl, Or.inl rfl, Or.inl rfl, Or.inl rfl, Or.inl rfl, trivial⟩⟩ (fun _ => rfl) (Nat.le_of_ble_eq_true rfl) ⟨⟨Or.inl rfl, Or.inl rfl, Or.inr trivial, Or.inr trivial, Or.inr trivial, Or.inr trivial, Or.inr trivial, Or.inr trivial, Or.inr trivial, Or.inr trivial, Or.inr trivial, Or.inr trivial, Or.inr trivial, Or.inr trivial, Or.inr trivial, Or.inr trivial, Or.inr trivial, Or.inr trivial, Or.inr trivial, Or.inr trivial, Or.inr trivial, Or.inr trivial, Or.inr trivial, trivial⟩, rfl, rfl, rfl, Nat.le_of_ble_eq_true rfl⟩ rfl zC1 rfl rfl dX0_upward_7 (fun r_7 w_7 hp => ?_) (fun E_ w_ hx => by obtain ⟨rfl, h_2, rfl⟩ := hx; exact zx_catch F hT [] ⟨0, 12, 15, 13⟩ [] rfl (fun _ h => nomatch h) (by decide) (by decide) lw_nse (z_weq (w' := zPl (pR _) _ :: _) (congrArg (fun z => z :: _) (zrnP rfl)) (hH _ _  (by omega) (by omega) h_2)))
  exact hp.elim
theorem cw_pglued_ok (Dg : va_G) (P : zPt) (t : Nat) (fp0 : Int32) (j x y kd nx ny d1 d2 : Nat) (fp fq : Nat → Int32) (hx : x < 8) (hy : y < 8) (h1 : nok nx d1 fp) (h2 : nok ny d2 fq) (hPx : P x = some (nI nx, nI d1, fp)) (hPy : P y = some (nI ny, nI d2, fq)) (hj : j < 8) (hkd : kd < 2) (hN : nx * ny ≤ 24) (hd : d1 + d2 ≤ 8) (o_ : Nat → Int64) : zCtrWD Dg yX0_glued cX0_glued 7 (some .int) [(0, 21, 24, 13)] 9 10 80 [zr 1 0, zi (nI j), zi (nI kd), zi (nI x), zi (nI y), zr 22 0] ((xH P t fp0) ++ [zAl 1 1 o_]) (fun r_ w_ => (∃ v_ w1_, (fun r w => r = some (zi (bI true)) ∧ w = xH (zput P j (some (nI (nx * ny), nI (d1 + d2), cgk kd nx fp fq (nx * ny)))) t fp0) (some v_) w1_ ∧ r_ = some (zi (nI 0)) ∧ w_ = w1_ ++ [zAl 1 1 (vp_updL o_ 0 (cvV v_))])) zNx := by
  refine z_startWD (by decide) [some (zr 1 0), some (zi (nI j)), some (zi (nI kd)), some (zi (nI x)), some (zi (nI y)), some (zr 22 0), none] rfl (fun _ => Nat.le_of_ble_eq_true rfl) (fun _ => rfl) (fun X hD F E hT hin => ?_)
  subst hD
  have K0 : ∀ (_ : True), Z X [some (zr 1 0), some (zi (nI j)), some (zi (nI kd)), some (zi (nI x)), some (zi (nI y)), some (zr 22 0), none] [zi (bI true), zi (nI 0), zr 22 0] (xH (zput P j (some (nI (nx * ny), nI (d1 + d2), cgk kd nx fp fq (nx * ny)))) t fp0 ++ [zAl 1 1 o_]) 10 80 12 := by
    intro _ 
    refine z_if_eqB F (tgt := 19) dX0_glued_12 (by decide) (fun c_12 => ?_) (fun c_12 => ?_)
    · refine z_lconst F 0 dX0_glued_19 rfl ?_
      refine z_lastN F rfl (Nat.le_of_ble_eq_true rfl) (by omega) dX0_glued_20 ?_
      refine z_weq (w' := [_, _, _, _, _, _, _, _, _, _, _, _, _, _, _, _, _, _, _, _, _, _, _]) rfl ?_
      refine z_goto F (tgt := 28) dX0_glued_21 (by decide) ?_
      refine z_iconst F (nI 0) dX0_glued_28 rfl ?_
      exact z_iret F E rfl dX0_glued_29 (by omega) (by omega) (⟨_, _, ⟨rfl, rfl⟩, rfl, (by first | (rw [cvB, c_12]; rfl) | cases c_12 | rfl)⟩)
    · refine z_lconst F 1 dX0_glued_15 rfl ?_
      refine z_goto F (tgt := 20) dX0_glued_16 (by decide) ?_
      refine z_lastN F rfl (Nat.le_of_ble_eq_true rfl) (by omega) dX0_glued_20 ?_
      refine z_weq (w' := [_, _, _, _, _, _, _, _, _, _, _, _, _, _, _, _, _, _, _, _, _, _, _]) rfl ?_
      refine z_goto F (tgt := 28) dX0_glued_21 (by decide) ?_
      refine z_iconst F (nI 0) dX0_glued_28 rfl ?_
      exact z_iret F E rfl dX0_glued_29 (by omega) (by omega) (⟨_, _, ⟨rfl, rfl⟩, rfl, (by first | (rw [cvB, c_12]; rfl) | cases c_12 | rfl)⟩)
  refine z_aload F dX0_glued_0 rfl ?_
  refine z_iconst F (nI 0) dX0_glued_2 rfl ?_
  refine z_aload_n F dX0_glued_3 rfl ?_
  refine z_iload_n F dX0_glued_4 rfl ?_
  refine z_iload_n F dX0_glued_5 rfl ?_
  refine z_iload_n F dX0_glued_6 rfl ?_
  refine z_iload F dX0_glued_7 rfl ?_
  refine z_callV F (c_pglued_ok P t fp0 j x y kd nx ny d1 d2 fp fq hx hy h1 h2 hPx hPy hj hkd hN hd) 4 rfl (lw_V q741 q742 q743 q109 q744) (by decide +kernel) ⟨Nat.le_of_ble_eq_true rfl, Nat.le_of_ble_eq_true rfl⟩ ⟨by omega, by omega⟩ [0, 1, 2, 3, 4, 5, 6, 7, 8, 9, 10, 11, 12, 13, 14, 15, 16, 17, 18, 19, 20, 21] 23 ⟨rfl, rfl, rfl, ⟨Or.inr (congrArg some (zrnP rfl).symm), Or.inr rfl, Or.inl rfl, Or.inl rfl, Or.inl rfl, Or.inl rfl, Or.inl rfl, Or.inl rfl, Or.inl rfl, Or.inl rfl, Or.inl rfl, Or.inl rfl, Or.inl rfl, Or.inl rfl, Or.inl rfl, Or.inl rfl, Or.inl rfl, Or.inl rfl, Or.inl rfl, Or.inl rfl, Or.inl rfl, Or.inl rfl, trivial⟩⟩ (fun _ => rfl) (Nat.le_of_ble_eq_true rfl) ⟨⟨Or.inl rfl, Or.inl rfl, Or.inr trivial, Or.inr trivial, Or.inr trivial, Or.inr trivial, Or.inr trivial, Or.inr trivial, Or.inr trivial, Or.inr trivial, Or.inr trivial, Or.inr trivial, Or.inr trivial, Or.inr trivial, Or.inr trivial, Or.inr trivial, Or.inr trivial, Or.inr trivial, Or.inr trivial, Or.inr trivial, Or.inr trivial, Or.inr trivial, Or.inr trivial, trivial⟩, rfl, rfl, rfl, Nat.le_of_ble_eq_true rfl⟩ rfl zC1 rfl rfl dX0_glued_9 (fun r_9 w_9 hp => ?_) (fun _ _ h => h.elim)
  rcases hp with ⟨rfl, rfl⟩
  · refine z_weq (w' := zPl (pR _) _ :: _) (congrArg (fun z => z :: _) (zrnP rfl)) ?_; exact K0 trivial
theorem cw_pglued_no (Dg : va_G) (P : zPt) (t : Nat) (fp0 : Int32) (x y nx ny d1 d2 : Nat) (fp fq : Nat → Int32) (hx : x < 8) (hy : y < 8) (h1 : nok nx d1 fp) (h2 : nok ny d2 fq) (hPx : P x = some (nI nx, nI d1, fp)) (hPy : P y = some (nI ny, nI d2, fq)) (s k : Int32) (h : glB s k nx ny d1 d2 = false) (o_ : Nat → Int64) : zCtrWD Dg yX0_glued cX0_glued 7 (some .int) [(0, 21, 24, 13)] 9 10 80 [zr 1 0, zi s, zi k, zi (nI x), zi (nI y), zr 22 0] ((xH P t fp0) ++ [zAl 1 1 o_]) (fun r_ w_ => (∃ v_ w1_, (fun r w => r = some (zi (bI false)) ∧ w = xH P t fp0) (some v_) w1_ ∧ r_ = some (zi (nI 0)) ∧ w_ = w1_ ++ [zAl 1 1 (vp_updL o_ 0 (cvV v_))])) zNx := by
  refine z_startWD (by decide) [some (zr 1 0), some (zi s), some (zi k), some (zi (nI x)), some (zi (nI y)), some (zr 22 0), none] rfl (fun _ => Nat.le_of_ble_eq_true rfl) (fun _ => rfl) (fun X hD F E hT hin => ?_)
  subst hD
  have K0 : ∀ (_ : True), Z X [some (zr 1 0), some (zi s), some (zi k), some (zi (nI x)), some (zi (nI y)), some (zr 22 0), none] [zi (bI false), zi (nI 0), zr 22 0] (xH P t fp0 ++ [zAl 1 1 o_]) 10 80 12 := by
    intro _ 
    refine z_if_eqB F (tgt := 19) dX0_glued_12 (by decide) (fun c_12 => ?_) (fun c_12 => ?_)
    · refine z_lconst F 0 dX0_glued_19 rfl ?_
      refine z_lastN F rfl (Nat.le_of_ble_eq_true rfl) (by omega) dX0_glued_20 ?_
      refine z_weq (w' := [_, _, _, _, _, _, _, _, _, _, _, _, _, _, _, _, _, _, _, _, _, _, _]) rfl ?_
      refine z_goto F (tgt := 28) dX0_glued_21 (by decide) ?_
      refine z_iconst F (nI 0) dX0_glued_28 rfl ?_
      exact z_iret F E rfl dX0_glued_29 (by omega) (by omega) (⟨_, _, ⟨rfl, rfl⟩, rfl, (by first | (rw [cvB, c_12]; rfl) | cases c_12 | rfl)⟩)
    · refine z_lconst F 1 dX0_glued_15 rfl ?_
      refine z_goto F (tgt := 20) dX0_glued_16 (by decide) ?_
      refine z_lastN F rfl (Nat.le_of_ble_eq_true rfl) (by omega) dX0_glued_20 ?_
      refine z_weq (w' := [_, _, _, _, _, _, _, _, _, _, _, _, _, _, _, _, _, _, _, _, _, _, _]) rfl ?_
      refine z_goto F (tgt := 28) dX0_glued_21 (by decide) ?_
      refine z_iconst F (nI 0) dX0_glued_28 rfl ?_
      exact z_iret F E rfl dX0_glued_29 (by omega) (by omega) (⟨_, _, ⟨rfl, rfl⟩, rfl, (by first | (rw [cvB, c_12]; rfl) | cases c_12 | rfl)⟩)
  refine z_aload F dX0_glued_0 rfl ?_
  refine z_iconst F (nI 0) dX0_glued_2 rfl ?_
  refine z_aload_n F dX0_glued_3 rfl ?_
  refine z_iload_n F dX0_glued_4 rfl ?_
  refine z_iload_n F dX0_glued_5 rfl ?_
  refine z_iload_n F dX0_glued_6 rfl ?_
  refine z_iload F dX0_glued_7 rfl ?_
  refine z_callV F (c_pglued_no P t fp0 x y nx ny d1 d2 fp fq hx hy h1 h2 hPx hPy s k h) 4 rfl (lw_V q741 q742 q743 q109 q744) (by decide +kernel) ⟨Nat.le_of_ble_eq_true rfl, Nat.le_of_ble_eq_true rfl⟩ ⟨by omega, by omega⟩ [0, 1, 2, 3, 4, 5, 6, 7, 8, 9, 10, 11, 12, 13, 14, 15, 16, 17, 18, 19, 20, 21] 23 ⟨rfl, rfl, rfl, ⟨Or.inr (congrArg some (zrnP rfl).symm), Or.inr rfl, Or.inl rfl, Or.inl rfl, Or.inl rfl, Or.inl rfl, Or.inl rfl, Or.inl rfl, Or.inl rfl, Or.inl rfl, Or.inl rfl, Or.inl rfl, Or.inl rfl, Or.inl rfl, Or.inl rfl, Or.inl rfl, Or.inl rfl, Or.inl rfl, Or.inl rfl, Or.inl rfl, Or.inl rfl, Or.inl rfl, trivial⟩⟩ (fun _ => rfl) (Nat.le_of_ble_eq_true rfl) ⟨⟨Or.inl rfl, Or.inl rfl, Or.inr trivial, Or.inr trivial, Or.inr trivial, Or.inr trivial, Or.inr trivial, Or.inr trivial, Or.inr trivial, Or.inr trivial, Or.inr trivial, Or.inr trivial, Or.inr trivial, Or.inr trivial, Or.inr trivial, Or.inr trivial, Or.inr trivial, Or.inr trivial, Or.inr trivial, Or.inr trivial, Or.inr trivial, Or.inr trivial, Or.inr trivial, trivial⟩, rfl, rfl, rfl, Nat.le_of_ble_eq_true rfl⟩ rfl zC1 rfl rfl dX0_glued_9 (fun r_9 w_9 hp => ?_) (fun _ _ h => h.elim)
  rcases hp with ⟨rfl, rfl⟩
  · refine z_weq (w' := zPl (pR _) _ :: _) (congrArg (fun z => z :: _) (zrnP rfl)) ?_; exact K0 trivial
theorem cw_pglued_bad1 (Dg : va_G) (P : zPt) (t : Nat) (fp0 : Int32) (s k x y : Int32) (hs : ∀ j, j < 8 → x = nI j → P j = none) (o_ : Nat → Int64) : zCtrWD Dg yX0_glued cX0_glued 7 (some .int) [(0, 21, 24, 13)] 9 10 80 [zr 1 0, zi s, zi k, zi x, zi y, zr 22 0] ((xH P t fp0) ++ [zAl 1 1 o_]) (fun r_ w_ => (∃ v_ w1_, (fun r w => False) (some v_) w1_ ∧ r_ = some (zi (nI 0)) ∧ w_ = w1_ ++ [zAl 1 1 (vp_updL o_ 0 (cvV v_))]) ∨ (∃ E_ w1_, (fun E w => E = eNSE ∧ True ∧ w = xH P t fp0) E_ w1_ ∧ r_ = some (zi (nI 1)) ∧ w_ = w1_ ++ [zAl 1 1 o_])) zNx := by
  refine z_startWD (by decide) [some (zr 1 0), some (zi s), some (zi k), some (zi x), some (zi y), some (zr 22 0), none] rfl (fun _ => Nat.le_of_ble_eq_true rfl) (fun _ => rfl) (fun X hD F E hT hin => ?_)
  subst hD
  have hH : ∀ (k0 n0 : Nat), k0 ≤ 10 → n0 ≤ 80 → (True) → Z X [some (zr 1 0), some (zi s), some (zi k), some (zi x), some (zi y), some (zr 22 0), none] [zr 23 0] (xH P t fp0 ++ [zAl 1 1 o_]) k0 n0 24 := by
    intro k0 n0  hk0 hn0 h_2
    refine z_astore F dX0_glued_24 (Nat.le_of_ble_eq_true rfl) ?_
    refine z_leq (L' := [_, _, _, _, _, _, _]) rfl ?_
    refine z_iconst F (nI 1) dX0_glued_26 rfl ?_
    exact z_iret F E rfl dX0_glued_27 (by omega) (by omega) (Or.inr ⟨_, _, ⟨rfl, h_2, rfl⟩, rfl, rfl⟩)
  refine z_aload F dX0_glued_0 rfl ?_
  refine z_iconst F (nI 0) dX0_glued_2 rfl ?_
  refine z_aload_n F dX0_glued_3 rfl ?_
  refine z_iload_n F dX0_glued_4 rfl ?_
  refine z_iload_n F dX0_glued_5 rfl ?_
  refine z_iload_n F dX0_glued_6 rfl ?_
  refine z_iload F dX0_glued_7 rfl ?_
  refine z_callV F (c_pglued_bad1 P t fp0 s k x y hs) 4 rfl (lw_V q741 q742 q743 q109 q744) (by decide +kernel) ⟨Nat.le_of_ble_eq_true rfl, Nat.le_of_ble_eq_true rfl⟩ ⟨by omega, by omega⟩ [0, 1, 2, 3, 4, 5, 6, 7, 8, 9, 10, 11, 12, 13, 14, 15, 16, 17, 18, 19, 20, 21] 23 ⟨rfl, rfl, rfl, ⟨Or.inr (congrArg some (zrnP rfl).symm), Or.inr rfl, Or.inl rfl, Or.inl rfl, Or.inl rfl, Or.inl rfl, Or.inl rfl, Or.inl rfl, Or.inl rfl, Or.inl rfl, Or.inl rfl, Or.inl rfl, Or.inl rfl, Or.inl rfl, Or.inl rfl, Or.inl rfl, Or.inl rfl, Or.inl rfl, Or.inl rfl, Or.inl rfl, Or.inl rfl, Or.inl rfl, trivial⟩⟩ (fun _ => rfl) (Nat.le_of_ble_eq_true rfl) ⟨⟨Or.inl rfl, Or.inl rfl, Or.inr trivial, Or.inr trivial, Or.inr trivial, Or.inr trivial, Or.inr trivial, Or.inr trivial, Or.inr trivial, Or.inr trivial, Or.inr trivial, Or.inr trivial, Or.inr trivial, Or.inr trivial, Or.inr trivial, Or.inr trivial, Or.inr trivial, Or.inr trivial, Or.inr trivial, Or.inr trivial, Or.inr trivial, Or.inr trivial, Or.inr trivial, trivial⟩, rfl, rfl, rfl, Nat.le_of_ble_eq_true rfl⟩ rfl zC1 rfl rfl dX0_glued_9 (fun r_9 w_9 hp => ?_) (fun E_ w_ hx => by obtain ⟨rfl, h_2, rfl⟩ := hx; exact zx_catch F hT [] ⟨0, 21, 24, 13⟩ [] rfl (fun _ h => nomatch h) (by decide) (by decide) lw_nse (z_weq (w' := zPl (pR _) _ :: _) (congrArg (fun z => z :: _) (zrnP rfl)) (hH _ _  (by omega) (by omega) h_2)))
  exact hp.elim
theorem cw_pglued_bad2 (Dg : va_G) (P : zPt) (t : Nat) (fp0 : Int32) (s k y : Int32) (x : Nat) {v : Int32 × Int32 × (Nat → Int32)} (hx : x < 8) (hPx : P x = some v) (hs : ∀ j, j < 8 → y = nI j → P j = none) (o_ : Nat → Int64) : zCtrWD Dg yX0_glued cX0_glued 7 (some .int) [(0, 21, 24, 13)] 9 10 80 [zr 1 0, zi s, zi k, zi (nI x), zi y, zr 22 0] ((xH P t fp0) ++ [zAl 1 1 o_]) (fun r_ w_ => (∃ v_ w1_, (fun r w => False) (some v_) w1_ ∧ r_ = some (zi (nI 0)) ∧ w_ = w1_ ++ [zAl 1 1 (vp_updL o_ 0 (cvV v_))]) ∨ (∃ E_ w1_, (fun E w => E = eNSE ∧ True ∧ w = xH P t fp0) E_ w1_ ∧ r_ = some (zi (nI 1)) ∧ w_ = w1_ ++ [zAl 1 1 o_])) zNx := by
  refine z_startWD (by decide) [some (zr 1 0), some (zi s), some (zi k), some (zi (nI x)), some (zi y), some (zr 22 0), none] rfl (fun _ => Nat.le_of_ble_eq_true rfl) (fun _ => rfl) (fun X hD F E hT hin => ?_)
  subst hD
  have hH : ∀ (k0 n0 : Nat), k0 ≤ 10 → n0 ≤ 80 → (True) → Z X [some (zr 1 0), some (zi s), some (zi k), some (zi (nI x)), some (zi y), some (zr 22 0), none] [zr 23 0] (xH P t fp0 ++ [zAl 1 1 o_]) k0 n0 24 := by
    intro k0 n0  hk0 hn0 h_2
    refine z_astore F dX0_glued_24 (Nat.le_of_ble_eq_true rfl) ?_
    refine z_leq (L' := [_, _, _, _, _, _, _]) rfl ?_
    refine z_iconst F (nI 1) dX0_glued_26 rfl ?_
    exact z_iret F E rfl dX0_glued_27 (by omega) (by omega) (Or.inr ⟨_, _, ⟨rfl, h_2, rfl⟩, rfl, rfl⟩)
  refine z_aload F dX0_glued_0 rfl ?_
  refine z_iconst F (nI 0) dX0_glued_2 rfl ?_
  refine z_aload_n F dX0_glued_3 rfl ?_
  refine z_iload_n F dX0_glued_4 rfl ?_
  refine z_iload_n F dX0_glued_5 rfl ?_
  refine z_iload_n F dX0_glued_6 rfl ?_
  refine z_iload F dX0_glued_7 rfl ?_
  refine z_callV F (c_pglued_bad2 P t fp0 s k y x hx hPx hs) 4 rfl (lw_V q741 q742 q743 q109 q744) (by decide +kernel) ⟨Nat.le_of_ble_eq_true rfl, Nat.le_of_ble_eq_true rfl⟩ ⟨by omega, by omega⟩ [0, 1, 2, 3, 4, 5, 6, 7, 8, 9, 10, 11, 12, 13, 14, 15, 16, 17, 18, 19, 20, 21] 23 ⟨rfl, rfl, rfl, ⟨Or.inr (congrArg some (zrnP rfl).symm), Or.inr rfl, Or.inl rfl, Or.inl rfl, Or.inl rfl, Or.inl rfl, Or.inl rfl, Or.inl rfl, Or.inl rfl, Or.inl rfl, Or.inl rfl, Or.inl rfl, Or.inl rfl, Or.inl rfl, Or.inl rfl, Or.inl rfl, Or.inl rfl, Or.inl rfl, Or.inl rfl, Or.inl rfl, Or.inl rfl, Or.inl rfl, trivial⟩⟩ (fun _ => rfl) (Nat.le_of_ble_eq_true rfl) ⟨⟨Or.inl rfl, Or.inl rfl, Or.inr trivial, Or.inr trivial, Or.inr trivial, Or.inr trivial, Or.inr trivial, Or.inr trivial, Or.inr trivial, Or.inr trivial, Or.inr trivial, Or.inr trivial, Or.inr trivial, Or.inr trivial, Or.inr trivial, Or.inr trivial, Or.inr trivial, Or.inr trivial, Or.inr trivial, Or.inr trivial, Or.inr trivial, Or.inr trivial, Or.inr trivial, trivial⟩, rfl, rfl, rfl, Nat.le_of_ble_eq_true rfl⟩ rfl zC1 rfl rfl dX0_glued_9 (fun r_9 w_9 hp => ?_) (fun E_ w_ hx => by obtain ⟨rfl, h_2, rfl⟩ := hx; exact zx_catch F hT [] ⟨0, 21, 24, 13⟩ [] rfl (fun _ h => nomatch h) (by decide) (by decide) lw_nse (z_weq (w' := zPl (pR _) _ :: _) (congrArg (fun z => z :: _) (zrnP rfl)) (hH _ _  (by omega) (by omega) h_2)))
  exact hp.elim
theorem cw_pseek (Dg : va_G) (P : zPt) (t : Nat) (fp : Int32) (kd a b dg : Nat) (h : grok kd a b) (hd1 : 1 ≤ dg) (hd8 : dg ≤ 8) (o_ : Nat → Int64) : zCtrWD Dg yX0_seek cX0_seek 7 (some .int) [(0, 14, 17, 22)] 33 45 850 [zr 1 0, zi (nI kd), zi (nI a), zi (nI b), zi (nI dg), zr 22 0] ((xH P t fp) ++ [zAl 1 1 o_]) (fun r_ w_ => (∃ v_ w1_, (fun r w => r = some (zi (skR kd a b dg)) ∧ w = xH P t fp) (some v_) w1_ ∧ r_ = some (zi (nI 0)) ∧ w_ = w1_ ++ [zAl 1 1 (vp_updL o_ 0 (cvV v_))])) zNx := by
  refine z_startWD (by decide) [some (zr 1 0), some (zi (nI kd)), some (zi (nI a)), some (zi (nI b)), some (zi (nI dg)), some (zr 22 0), none] rfl (fun _ => Nat.le_of_ble_eq_true rfl) (fun _ => rfl) (fun X hD F E hT hin => ?_)
  subst hD
  have K0 : ∀ (_ : True), Z X [some (zr 1 0), some (zi (nI kd)), some (zi (nI a)), some (zi (nI b)), some (zi (nI dg)), some (zr 22 0), none] [zi (skR kd a b dg), zi (nI 0), zr 22 0] (xH P t fp ++ [zAl 1 1 o_]) 45 850 12 := by
    intro _ 
    refine z_i2l F dX0_seek_12 ?_
    refine z_lastN F rfl (Nat.le_of_ble_eq_true rfl) (by omega) dX0_seek_13 ?_
    refine z_weq (w' := [_, _, _, _, _, _, _, _, _, _, _, _, _, _, _, _, _, _, _, _, _, _, _]) rfl ?_
    refine z_goto F (tgt := 21) dX0_seek_14 (by decide) ?_
    refine z_iconst F (nI 0) dX0_seek_21 rfl ?_
    exact z_iret F E rfl dX0_seek_22 (by omega) (by omega) (⟨_, _, ⟨rfl, rfl⟩, rfl, rfl⟩)
  refine z_aload F dX0_seek_0 rfl ?_
  refine z_iconst F (nI 0) dX0_seek_2 rfl ?_
  refine z_aload_n F dX0_seek_3 rfl ?_
  refine z_iload_n F dX0_seek_4 rfl ?_
  refine z_iload_n F dX0_seek_5 rfl ?_
  refine z_iload_n F dX0_seek_6 rfl ?_
  refine z_iload F dX0_seek_7 rfl ?_
  refine z_callV F (c_pseek P t fp kd a b dg h hd1 hd8) 4 rfl (lw_V q951 q952 q953 q109 q954) (by decide +kernel) ⟨Nat.le_of_ble_eq_true rfl, Nat.le_of_ble_eq_true rfl⟩ ⟨by omega, by omega⟩ [0, 1, 2, 3, 4, 5, 6, 7, 8, 9, 10, 11, 12, 13, 14, 15, 16, 17, 18, 19, 20, 21] 23 ⟨rfl, rfl, rfl, ⟨Or.inr (congrArg some (zrnP rfl).symm), Or.inr rfl, Or.inl rfl, Or.inl rfl, Or.inl rfl, Or.inl rfl, Or.inl rfl, Or.inl rfl, Or.inl rfl, Or.inl rfl, Or.inl rfl, Or.inl rfl, Or.inl rfl, Or.inl rfl, Or.inl rfl, Or.inl rfl, Or.inl rfl, Or.inl rfl, Or.inl rfl, Or.inl rfl, Or.inl rfl, Or.inl rfl, trivial⟩⟩ (fun _ => rfl) (Nat.le_of_ble_eq_true rfl) ⟨⟨Or.inl rfl, Or.inl rfl, Or.inr trivial, Or.inr trivial, Or.inr trivial, Or.inr trivial, Or.inr trivial, Or.inr trivial, Or.inr trivial, Or.inr trivial, Or.inr trivial, Or.inr trivial, Or.inr trivial, Or.inr trivial, Or.inr trivial, Or.inr trivial, Or.inr trivial, Or.inr trivial, Or.inr trivial, Or.inr trivial, Or.inr trivial, Or.inr trivial, Or.inr trivial, trivial⟩, rfl, rfl, rfl, Nat.le_of_ble_eq_true rfl⟩ rfl zC1 rfl rfl dX0_seek_9 (fun r_9 w_9 hp => ?_) (fun _ _ h => h.elim)
  rcases hp with ⟨rfl, rfl⟩
  · refine z_weq (w' := zPl (pR _) _ :: _) (congrArg (fun z => z :: _) (zrnP rfl)) ?_; exact K0 trivial
theorem cw_pseek_bad (Dg : va_G) (P : zPt) (t : Nat) (fp : Int32) (k a b dg : Int32) (h : (grB k a b && inB dg (nI 1) (nI 8)) = false) (o_ : Nat → Int64) : zCtrWD Dg yX0_seek cX0_seek 7 (some .int) [(0, 14, 17, 22)] 33 45 850 [zr 1 0, zi k, zi a, zi b, zi dg, zr 22 0] ((xH P t fp) ++ [zAl 1 1 o_]) (fun r_ w_ => (∃ v_ w1_, (fun r w => False) (some v_) w1_ ∧ r_ = some (zi (nI 0)) ∧ w_ = w1_ ++ [zAl 1 1 (vp_updL o_ 0 (cvV v_))]) ∨ (∃ E_ w1_, (fun E w => E = eIAE ∧ True ∧ w = xH P t fp) E_ w1_ ∧ r_ = some (zi (nI 1)) ∧ w_ = w1_ ++ [zAl 1 1 o_])) zNx := by
  refine z_startWD (by decide) [some (zr 1 0), some (zi k), some (zi a), some (zi b), some (zi dg), some (zr 22 0), none] rfl (fun _ => Nat.le_of_ble_eq_true rfl) (fun _ => rfl) (fun X hD F E hT hin => ?_)
  subst hD
  have hH : ∀ (k0 n0 : Nat), k0 ≤ 45 → n0 ≤ 850 → (True) → Z X [some (zr 1 0), some (zi k), some (zi a), some (zi b), some (zi dg), some (zr 22 0), none] [zr 23 0] (xH P t fp ++ [zAl 1 1 o_]) k0 n0 17 := by
    intro k0 n0  hk0 hn0 h_2
    refine z_astore F dX0_seek_17 (Nat.le_of_ble_eq_true rfl) ?_
    refine z_leq (L' := [_, _, _, _, _, _, _]) rfl ?_
    refine z_iconst F (nI 1) dX0_seek_19 rfl ?_
    exact z_iret F E rfl dX0_seek_20 (by omega) (by omega) (Or.inr ⟨_, _, ⟨rfl, h_2, rfl⟩, rfl, rfl⟩)
  refine z_aload F dX0_seek_0 rfl ?_
  refine z_iconst F (nI 0) dX0_seek_2 rfl ?_
  refine z_aload_n F dX0_seek_3 rfl ?_
  refine z_iload_n F dX0_seek_4 rfl ?_
  refine z_iload_n F dX0_seek_5 rfl ?_
  refine z_iload_n F dX0_seek_6 rfl ?_
  refine z_iload F dX0_seek_7 rfl ?_
  refine z_callV F (c_pseek_bad P t fp k a b dg h) 4 rfl (lw_V q951 q952 q953 q109 q954) (by decide +kernel) ⟨Nat.le_of_ble_eq_true rfl, Nat.le_of_ble_eq_true rfl⟩ ⟨by omega, by omega⟩ [0, 1, 2, 3, 4, 5, 6, 7, 8, 9, 10, 11, 12, 13, 14, 15, 16, 17, 18, 19, 20, 21] 23 ⟨rfl, rfl, rfl, ⟨Or.inr (congrArg some (zrnP rfl).symm), Or.inr rfl, Or.inl rfl, Or.inl rfl, Or.inl rfl, Or.inl rfl, Or.inl rfl, Or.inl rfl, Or.inl rfl, Or.inl rfl, Or.inl rfl, Or.inl rfl, Or.inl rfl, Or.inl rfl, Or.inl rfl, Or.inl rfl, Or.inl rfl, Or.inl rfl, Or.inl rfl, Or.inl rfl, Or.inl rfl, Or.inl rfl, trivial⟩⟩ (fun _ => rfl) (Nat.le_of_ble_eq_true rfl) ⟨⟨Or.inl rfl, Or.inl rfl, Or.inr trivial, Or.inr trivial, Or.inr trivial, Or.inr trivial, Or.inr trivial, Or.inr trivial, Or.inr trivial, Or.inr trivial, Or.inr trivial, Or.inr trivial, Or.inr trivial, Or.inr trivial, Or.inr trivial, Or.inr trivial, Or.inr trivial, Or.inr trivial, Or.inr trivial, Or.inr trivial, Or.inr trivial, Or.inr trivial, Or.inr trivial, trivial⟩, rfl, rfl, rfl, Nat.le_of_ble_eq_true rfl⟩ rfl zC1 rfl rfl dX0_seek_9 (fun r_9 w_9 hp => ?_) (fun E_ w_ hx => by obtain ⟨rfl, h_2, rfl⟩ := hx; exact zx_catch F hT [] ⟨0, 14, 17, 22⟩ [] rfl (fun _ h => nomatch h) (by decide) (by decide) lw_iae (z_weq (w' := zPl (pR _) _ :: _) (congrArg (fun z => z :: _) (zrnP rfl)) (hH _ _  (by omega) (by omega) h_2)))
  exact hp.elim
theorem cw_psmall (Dg : va_G) (t : Nat) (fp : Int32) (n d k : Nat) (told : Bool) (pr mn kd fw ls nn : Int32) (Fa Sa Is : Nat → Int32) (sn g sm : Int32) (D : Nat → Int32) (xn xd : Int32) (f Tu Im : Nat → Int32) (h1 : 1 ≤ n) (hn : n < 7) (hd1 : 1 ≤ d) (hd : d < 9) (hk : k < 2 ^ 31) (hIs : ∀ v, v < 32768 → Is v = bI false) (o_ : Nat → Int64) : zCtrWD Dg yX0_small cX0_small 6 (some .int) [(0, 12, 15, 22)] 15 1 6 [zr 1 0, zi (nI n), zi (nI d), zi (nI k), zr 22 0] ((xSm t fp told pr mn kd fw ls nn Fa Sa Is sn g sm D xn xd f Tu Im) ++ [zAl 1 1 o_]) (fun r_ w_ => (∃ v_ w1_, (fun r w => r = some (zi (nI (smM n d k))) ∧ ∃ Fa' Sa' Is' sn' g' sm' D' f' Tu', w = xSm t fp true (nI (pcn n n)) (nI (smM n d k)) (nI (smK n d k)) (fwI (smF n d k)) (lsI (smF n d k)) (nI n) Fa' Sa' Is' sn' g' sm' D' (nI n) xd f' Tu' Im ∧ ∀ v, v < 32768 → Is' v = bI false) (some v_) w1_ ∧ r_ = some (zi (nI 0)) ∧ w_ = w1_ ++ [zAl 1 1 (vp_updL o_ 0 (cvV v_))])) zNx := by
  refine z_startWD (by decide) [some (zr 1 0), some (zi (nI n)), some (zi (nI d)), some (zi (nI k)), some (zr 22 0), none] rfl (fun _ => Nat.le_of_ble_eq_true rfl) (fun _ => rfl) (fun X hD F E hT hin => ?_)
  subst hD
  have K0 : ∀ Fa' Sa' Is' sn' g' sm' D' f' Tu', (∀ v, v < 32768 → Is' v = bI false) → Z X [some (zr 1 0), some (zi (nI n)), some (zi (nI d)), some (zi (nI k)), some (zr 22 0), none] [zi (nI (smM n d k)), zi (nI 0), zr 22 0] (xSm t fp true (nI (pcn n n)) (nI (smM n d k)) (nI (smK n d k)) (fwI (smF n d k)) (lsI (smF n d k)) (nI n) Fa' Sa' Is' sn' g' sm' D' (nI n) xd f' Tu' Im ++ [zAl 1 1 o_]) 1 6 10 := by
    intro Fa' Sa' Is' sn' g' sm' D' f' Tu' h_1
    refine z_i2l F dX0_small_10 ?_
    refine z_lastN F rfl (Nat.le_of_ble_eq_true rfl) (by omega) dX0_small_11 ?_
    refine z_weq (w' := [_, _, _, _, _, _, _, _, _, _, _, _, _, _, _, _, _, _, _, _, _, _, _]) rfl ?_
    refine z_goto F (tgt := 19) dX0_small_12 (by decide) ?_
    refine z_iconst F (nI 0) dX0_small_19 rfl ?_
    exact z_iret F E rfl dX0_small_20 (by omega) (by omega) (⟨_, _, ⟨rfl, Fa', Sa', Is', sn', g', sm', D', f', Tu', rfl, h_1⟩, rfl, rfl⟩)
  refine z_aload F dX0_small_0 rfl ?_
  refine z_iconst F (nI 0) dX0_small_2 rfl ?_
  refine z_aload_n F dX0_small_3 rfl ?_
  refine z_iload_n F dX0_small_4 rfl ?_
  refine z_iload_n F dX0_small_5 rfl ?_
  refine z_iload_n F dX0_small_6 rfl ?_
  refine z_callV F (c_psmall t fp n d k told pr mn kd fw ls nn Fa Sa Is sn g sm D xn xd f Tu Im h1 hn hd1 hd hk hIs) 3 rfl (lw_V q1019 q1020 q1021 q109 q1022) (by decide +kernel) ⟨Nat.le_of_ble_eq_true rfl, Nat.le_of_ble_eq_true rfl⟩ ⟨by omega, by omega⟩ [0, 1, 2, 3, 4, 5, 6, 7, 8, 9, 10, 11, 12, 13, 14, 15, 16, 17, 18, 19, 20, 21] 23 ⟨rfl, rfl, rfl, ⟨Or.inl rfl, Or.inr rfl, Or.inl rfl, Or.inl rfl, Or.inl rfl, Or.inl rfl, Or.inl rfl, Or.inl rfl, Or.inl rfl, Or.inl rfl, Or.inl rfl, Or.inr rfl, Or.inr rfl, Or.inr rfl, Or.inr rfl, Or.inr rfl, Or.inr rfl, Or.inr rfl, Or.inr rfl, Or.inr rfl, Or.inr rfl, Or.inl rfl, trivial⟩⟩ (fun h => nomatch h) (Nat.le_of_ble_eq_true rfl) ⟨⟨Or.inr trivial, Or.inl rfl, Or.inr trivial, Or.inr trivial, Or.inr trivial, Or.inr trivial, Or.inr trivial, Or.inr trivial, Or.inr trivial, Or.inr trivial, Or.inr trivial, Or.inl rfl, Or.inl rfl, Or.inl rfl, Or.inl rfl, Or.inl rfl, Or.inl rfl, Or.inl rfl, Or.inl rfl, Or.inl rfl, Or.inl rfl, Or.inr trivial, Or.inr trivial, trivial⟩, rfl, rfl, rfl, Nat.le_of_ble_eq_true rfl⟩ rfl zC1 rfl rfl dX0_small_7 (fun r_7 w_7 hp => ?_) (fun _ _ h => h.elim)
  rcases hp with ⟨rfl, Fa', Sa', Is', sn', g', sm', D', f', Tu', rfl, h_1⟩
  · exact K0 Fa' Sa' Is' sn' g' sm' D' f' Tu' h_1
theorem cw_psmall_bad (Dg : va_G) (n d k : Int32) (h : (inB n (nI 1) (nI 6) && (inB d (nI 1) (nI 8) && !decide (k < 0))) = false) (t : Nat) (fp : Int32) (o_ : Nat → Int64) : zCtrWD Dg yX0_small cX0_small 6 (some .int) [(0, 12, 15, 22)] 15 1 6 [zr 1 0, zi n, zi d, zi k, zr 22 0] ([zH, xO t fp, zH, zH, zH, zH, zH, zH, zH, zH, zH, zH, zH, zH, zH, zH, zH, zH, zH, zH, zH, zH] ++ [zAl 1 1 o_]) (fun r_ w_ => (∃ v_ w1_, (fun r w => False) (some v_) w1_ ∧ r_ = some (zi (nI 0)) ∧ w_ = w1_ ++ [zAl 1 1 (vp_updL o_ 0 (cvV v_))]) ∨ (∃ E_ w1_, (fun E w => E = eIAE ∧ True ∧ w = [zH, xO t fp, zH, zH, zH, zH, zH, zH, zH, zH, zH, zH, zH, zH, zH, zH, zH, zH, zH, zH, zH, zH]) E_ w1_ ∧ r_ = some (zi (nI 1)) ∧ w_ = w1_ ++ [zAl 1 1 o_])) zNx := by
  refine z_startWD (by decide) [some (zr 1 0), some (zi n), some (zi d), some (zi k), some (zr 22 0), none] rfl (fun _ => Nat.le_of_ble_eq_true rfl) (fun _ => rfl) (fun X hD F E hT hin => ?_)
  subst hD
  have hH : ∀ (k0 n0 : Nat), k0 ≤ 1 → n0 ≤ 6 → (True) → Z X [some (zr 1 0), some (zi n), some (zi d), some (zi k), some (zr 22 0), none] [zr 23 0] ([zH, xO t fp, zH, zH, zH, zH, zH, zH, zH, zH, zH, zH, zH, zH, zH, zH, zH, zH, zH, zH, zH, zH] ++ [zAl 1 1 o_]) k0 n0 15 := by
    intro k0 n0  hk0 hn0 h_2
    refine z_astore F dX0_small_15 (Nat.le_of_ble_eq_true rfl) ?_
    refine z_leq (L' := [_, _, _, _, _, _]) rfl ?_
    refine z_iconst F (nI 1) dX0_small_17 rfl ?_
    exact z_iret F E rfl dX0_small_18 (by omega) (by omega) (Or.inr ⟨_, _, ⟨rfl, h_2, rfl⟩, rfl, rfl⟩)
  refine z_aload F dX0_small_0 rfl ?_
  refine z_iconst F (nI 0) dX0_small_2 rfl ?_
  refine z_aload_n F dX0_small_3 rfl ?_
  refine z_iload_n F dX0_small_4 rfl ?_
  refine z_iload_n F dX0_small_5 rfl ?_
  refine z_iload_n F dX0_small_6 rfl ?_
  refine z_callVH F (c_psmall_bad n d k h) 3 rfl (lw_V q1019 q1020 q1021 q109 q1022) (by decide +kernel) ⟨Nat.le_of_ble_eq_true rfl, Nat.le_of_ble_eq_true rfl⟩ ⟨by omega, by omega⟩ [0, 1] 23 ⟨rfl, rfl, rfl, ⟨Or.inl rfl, Or.inl rfl, trivial⟩⟩ (fun h => nomatch h) (Nat.le_of_ble_eq_true rfl) ⟨⟨Or.inr trivial, Or.inr rfl, Or.inr trivial, Or.inr trivial, Or.inr trivial, Or.inr trivial, Or.inr trivial, Or.inr trivial, Or.inr trivial, Or.inr trivial, Or.inr trivial, Or.inr trivial, Or.inr trivial, Or.inr trivial, Or.inr trivial, Or.inr trivial, Or.inr trivial, Or.inr trivial, Or.inr trivial, Or.inr trivial, Or.inr trivial, Or.inr trivial, Or.inr trivial, trivial⟩, rfl, rfl, rfl, Nat.le_of_ble_eq_true rfl⟩ rfl zC1 rfl rfl dX0_small_7 (fun r_7 w_7 hp => ?_) (fun E_ w_ hx => by obtain ⟨rfl, h_2, rfl⟩ := hx; exact zx_catch F hT [] ⟨0, 12, 15, 22⟩ [] rfl (fun _ h => nomatch h) (by decide) (by decide) lw_iae (hH _ _  (by omega) (by omega) h_2))
  exact hp.elim
theorem cw_play (Dg : va_G) (P : zPt) (t : Nat) (fp : Int32) (j n w d : Nat) (f : Nat → Int32) (hw : 1 ≤ w) (hw2 : w ≤ 24) (hj : j < 8) (h : nok n d f) (hP : P j = some (nI n, nI d, f)) (o_ : Nat → Int64) : zCtrWD Dg yX0_lay cX0_lay 5 (some .int) [(0, 10, 13, 13), (0, 10, 17, 22)] 16 6 300 [zr 1 0, zi (nI j), zi (nI w), zr 22 0] ((xH P t fp) ++ [zAl 1 1 o_]) (fun r_ w_ => (∃ v_ w1_, (fun r v => ∃ l q Bs, r = some (zi (nI l)) ∧ (n ≤ 8 → isMl n (LN n f w) (fun _ => True) (some (l, q))) ∧ (8 < n → q = clF n f w (LN n f w (fun i => i) + 1) (fun i => i) ∧ l = LN n f w q) ∧ (∀ i, i < n → Bs i = nI (q i)) ∧ v = xH2 P t fp n Bs) (some v_) w1_ ∧ r_ = some (zi (nI 0)) ∧ w_ = w1_ ++ [zAl 1 1 (vp_updL o_ 0 (cvV v_))])) zNx := by
  refine z_startWD (by decide) [some (zr 1 0), some (zi (nI j)), some (zi (nI w)), some (zr 22 0), none] rfl (fun _ => Nat.le_of_ble_eq_true rfl) (fun _ => rfl) (fun X hD F E hT hin => ?_)
  subst hD
  have K0 : ∀ l q Bs, (n ≤ 8 → isMl n (LN n f w) (fun _ => True) (some (l, q))) → (8 < n → q = clF n f w (LN n f w (fun i => i) + 1) (fun i => i) ∧ l = LN n f w q) → (∀ i, i < n → Bs i = nI (q i)) → Z X [some (zr 1 0), some (zi (nI j)), some (zi (nI w)), some (zr 22 0), none] [zi (nI l), zi (nI 0), zr 22 0] (xH2 P t fp n Bs ++ [zAl 1 1 o_]) 6 300 8 := by
    intro l q Bs h_1 h_2 h_3
    refine z_i2l F dX0_lay_8 ?_
    refine z_lastN F rfl (Nat.le_of_ble_eq_true rfl) (by omega) dX0_lay_9 ?_
    refine z_weq (w' := [_, _, _, _, _, _, _, _, _, _, _, _, _, _, _, _, _, _, _, _, _, _, _]) rfl ?_
    refine z_goto F (tgt := 21) dX0_lay_10 (by decide) ?_
    refine z_iconst F (nI 0) dX0_lay_21 rfl ?_
    exact z_iret F E rfl dX0_lay_22 (by omega) (by omega) (⟨_, _, ⟨l, q, Bs, rfl, h_1, h_2, h_3, rfl⟩, rfl, rfl⟩)
  refine z_aload_n F dX0_lay_0 rfl ?_
  refine z_iconst F (nI 0) dX0_lay_1 rfl ?_
  refine z_aload_n F dX0_lay_2 rfl ?_
  refine z_iload_n F dX0_lay_3 rfl ?_
  refine z_iload_n F dX0_lay_4 rfl ?_
  refine z_callV F (c_play P t fp j n w d f hw hw2 hj h hP) 2 rfl (lw_V q1223 q1224 q1225 q109 q1226) (by decide +kernel) ⟨Nat.le_of_ble_eq_true rfl, Nat.le_of_ble_eq_true rfl⟩ ⟨by omega, by omega⟩ [0, 1, 2, 3, 4, 5, 6, 7, 8, 9, 10, 11, 12, 13, 14, 15, 16, 17, 18, 19, 20, 21] 23 ⟨rfl, rfl, rfl, ⟨Or.inr (congrArg some (zrnP rfl).symm), Or.inr rfl, Or.inl rfl, Or.inl rfl, Or.inl rfl, Or.inl rfl, Or.inl rfl, Or.inl rfl, Or.inl rfl, Or.inl rfl, Or.inl rfl, Or.inl rfl, Or.inl rfl, Or.inl rfl, Or.inl rfl, Or.inl rfl, Or.inl rfl, Or.inl rfl, Or.inl rfl, Or.inl rfl, Or.inl rfl, Or.inl rfl, trivial⟩⟩ (fun _ => rfl) (Nat.le_of_ble_eq_true rfl) ⟨⟨Or.inl rfl, Or.inl rfl, Or.inr trivial, Or.inr trivial, Or.inr trivial, Or.inr trivial, Or.inr trivial, Or.inr trivial, Or.inr trivial, Or.inr trivial, Or.inr trivial, Or.inr trivial, Or.inr trivial, Or.inr trivial, Or.inr trivial, Or.inr trivial, Or.inr trivial, Or.inr trivial, Or.inr trivial, Or.inr trivial, Or.inr trivial, Or.inr trivial, Or.inr trivial, trivial⟩, rfl, rfl, rfl, Nat.le_of_ble_eq_true rfl⟩ rfl zC1 rfl rfl dX0_lay_5 (fun r_5 w_5 hp => ?_) (fun _ _ h => h.elim)
  rcases hp with ⟨l, q, Bs, rfl, h_1, h_2, h_3, rfl⟩
  · refine z_weq (w' := zPl (pR _) _ :: _) (congrArg (fun z => z :: _) (zrnP rfl)) ?_; exact K0 l q Bs h_1 h_2 h_3
theorem cw_play_bad (Dg : va_G) (P : zPt) (t : Nat) (fp : Int32) (j n d : Nat) (f : Nat → Int32) (w : Int32) (hx : inB w (nI 1) (nI 24) = false) (hj : j < 8) (h : nok n d f) (hP : P j = some (nI n, nI d, f)) (o_ : Nat → Int64) : zCtrWD Dg yX0_lay cX0_lay 5 (some .int) [(0, 10, 13, 13), (0, 10, 17, 22)] 16 6 300 [zr 1 0, zi (nI j), zi w, zr 22 0] ((xH P t fp) ++ [zAl 1 1 o_]) (fun r_ w_ => (∃ v_ w1_, (fun r v => False) (some v_) w1_ ∧ r_ = some (zi (nI 0)) ∧ w_ = w1_ ++ [zAl 1 1 (vp_updL o_ 0 (cvV v_))]) ∨ (∃ E_ w1_, (fun E w => E = eIAE ∧ True ∧ w = xH P t fp) E_ w1_ ∧ r_ = some (zi (nI 2)) ∧ w_ = w1_ ++ [zAl 1 1 o_])) zNx := by
  refine z_startWD (by decide) [some (zr 1 0), some (zi (nI j)), some (zi w), some (zr 22 0), none] rfl (fun _ => Nat.le_of_ble_eq_true rfl) (fun _ => rfl) (fun X hD F E hT hin => ?_)
  subst hD
  have hH : ∀ (k0 n0 : Nat), k0 ≤ 6 → n0 ≤ 300 → (True) → Z X [some (zr 1 0), some (zi (nI j)), some (zi w), some (zr 22 0), none] [zr 23 0] (xH P t fp ++ [zAl 1 1 o_]) k0 n0 17 := by
    intro k0 n0  hk0 hn0 h_2
    refine z_astore F dX0_lay_17 (Nat.le_of_ble_eq_true rfl) ?_
    refine z_leq (L' := [_, _, _, _, _]) rfl ?_
    refine z_iconst F (nI 2) dX0_lay_19 rfl ?_
    exact z_iret F E rfl dX0_lay_20 (by omega) (by omega) (Or.inr ⟨_, _, ⟨rfl, h_2, rfl⟩, rfl, rfl⟩)
  refine z_aload_n F dX0_lay_0 rfl ?_
  refine z_iconst F (nI 0) dX0_lay_1 rfl ?_
  refine z_aload_n F dX0_lay_2 rfl ?_
  refine z_iload_n F dX0_lay_3 rfl ?_
  refine z_iload_n F dX0_lay_4 rfl ?_
  refine z_callV F (c_play_bad P t fp j n d f w hx hj h hP) 2 rfl (lw_V q1223 q1224 q1225 q109 q1226) (by decide +kernel) ⟨Nat.le_of_ble_eq_true rfl, Nat.le_of_ble_eq_true rfl⟩ ⟨by omega, by omega⟩ [0, 1, 2, 3, 4, 5, 6, 7, 8, 9, 10, 11, 12, 13, 14, 15, 16, 17, 18, 19, 20, 21] 23 ⟨rfl, rfl, rfl, ⟨Or.inr (congrArg some (zrnP rfl).symm), Or.inr rfl, Or.inl rfl, Or.inl rfl, Or.inl rfl, Or.inl rfl, Or.inl rfl, Or.inl rfl, Or.inl rfl, Or.inl rfl, Or.inl rfl, Or.inl rfl, Or.inl rfl, Or.inl rfl, Or.inl rfl, Or.inl rfl, Or.inl rfl, Or.inl rfl, Or.inl rfl, Or.inl rfl, Or.inl rfl, Or.inl rfl, trivial⟩⟩ (fun _ => rfl) (Nat.le_of_ble_eq_true rfl) ⟨⟨Or.inl rfl, Or.inl rfl, Or.inr trivial, Or.inr trivial, Or.inr trivial, Or.inr trivial, Or.inr trivial, Or.inr trivial, Or.inr trivial, Or.inr trivial, Or.inr trivial, Or.inr trivial, Or.inr trivial, Or.inr trivial, Or.inr trivial, Or.inr trivial, Or.inr trivial, Or.inr trivial, Or.inr trivial, Or.inr trivial, Or.inr trivial, Or.inr trivial, Or.inr trivial, trivial⟩, rfl, rfl, rfl, Nat.le_of_ble_eq_true rfl⟩ rfl zC1 rfl rfl dX0_lay_5 (fun r_5 w_5 hp => ?_) (fun E_ w_ hx => by obtain ⟨rfl, h_2, rfl⟩ := hx; exact zx_catch2 F hT ⟨0, 10, 13, 13⟩ ⟨0, 10, 17, 22⟩ rfl (by decide) (by decide) (by decide) lw_nse lw_iae (z_weq (w' := zPl (pR _) _ :: _) (congrArg (fun z => z :: _) (zrnP rfl)) (hH _ _  (by omega) (by omega) h_2)))
  exact hp.elim
theorem cw_pheavy (Dg : va_G) (P : zPt) (t : Nat) (fp : Int32) (j n d what : Nat) (f : Nat → Int32) (hw : what < 3) (hj : j < 8) (h : nok n d f) (hP : P j = some (nI n, nI d, f)) (o_ : Nat → Int64) : zCtrWD Dg yX0_heavy cX0_heavy 5 (some .int) [(0, 10, 13, 13)] 30 114 2627 [zr 1 0, zi (nI j), zi (nI what), zr 22 0] ((xH P t fp) ++ [zAl 1 1 o_]) (fun r_ w_ => (∃ v_ w1_, (fun r w => r = some (zi (hyV n f what)) ∧ w = xH P t fp) (some v_) w1_ ∧ r_ = some (zi (nI 0)) ∧ w_ = w1_ ++ [zAl 1 1 (vp_updL o_ 0 (cvV v_))])) zNx := by
  refine z_startWD (by decide) [some (zr 1 0), some (zi (nI j)), some (zi (nI what)), some (zr 22 0), none] rfl (fun _ => Nat.le_of_ble_eq_true rfl) (fun _ => rfl) (fun X hD F E hT hin => ?_)
  subst hD
  have K0 : ∀ (_ : True), Z X [some (zr 1 0), some (zi (nI j)), some (zi (nI what)), some (zr 22 0), none] [zi (hyV n f what), zi (nI 0), zr 22 0] (xH P t fp ++ [zAl 1 1 o_]) 114 2627 8 := by
    intro _ 
    refine z_i2l F dX0_heavy_8 ?_
    refine z_lastN F rfl (Nat.le_of_ble_eq_true rfl) (by omega) dX0_heavy_9 ?_
    refine z_weq (w' := [_, _, _, _, _, _, _, _, _, _, _, _, _, _, _, _, _, _, _, _, _, _, _]) rfl ?_
    refine z_goto F (tgt := 17) dX0_heavy_10 (by decide) ?_
    refine z_iconst F (nI 0) dX0_heavy_17 rfl ?_
    exact z_iret F E rfl dX0_heavy_18 (by omega) (by omega) (⟨_, _, ⟨rfl, rfl⟩, rfl, rfl⟩)
  refine z_aload_n F dX0_heavy_0 rfl ?_
  refine z_iconst F (nI 0) dX0_heavy_1 rfl ?_
  refine z_aload_n F dX0_heavy_2 rfl ?_
  refine z_iload_n F dX0_heavy_3 rfl ?_
  refine z_iload_n F dX0_heavy_4 rfl ?_
  refine z_callV F (c_pheavy P t fp j n d what f hw hj h hP) 2 rfl (lw_V q1371 q1372 q1373 q109 q1374) (by decide +kernel) ⟨Nat.le_of_ble_eq_true rfl, Nat.le_of_ble_eq_true rfl⟩ ⟨by omega, by omega⟩ [0, 1, 2, 3, 4, 5, 6, 7, 8, 9, 10, 11, 12, 13, 14, 15, 16, 17, 18, 19, 20, 21] 23 ⟨rfl, rfl, rfl, ⟨Or.inr (congrArg some (zrnP rfl).symm), Or.inr rfl, Or.inl rfl, Or.inl rfl, Or.inl rfl, Or.inl rfl, Or.inl rfl, Or.inl rfl, Or.inl rfl, Or.inl rfl, Or.inl rfl, Or.inl rfl, Or.inl rfl, Or.inl rfl, Or.inl rfl, Or.inl rfl, Or.inl rfl, Or.inl rfl, Or.inl rfl, Or.inl rfl, Or.inl rfl, Or.inl rfl, trivial⟩⟩ (fun _ => rfl) (Nat.le_of_ble_eq_true rfl) ⟨⟨Or.inl rfl, Or.inl rfl, Or.inr trivial, Or.inr trivial, Or.inr trivial, Or.inr trivial, Or.inr trivial, Or.inr trivial, Or.inr trivial, Or.inr trivial, Or.inr trivial, Or.inr trivial, Or.inr trivial, Or.inr trivial, Or.inr trivial, Or.inr trivial, Or.inr trivial, Or.inr trivial, Or.inr trivial, Or.inr trivial, Or.inr trivial, Or.inr trivial, Or.inr trivial, trivial⟩, rfl, rfl, rfl, Nat.le_of_ble_eq_true rfl⟩ rfl zC1 rfl rfl dX0_heavy_5 (fun r_5 w_5 hp => ?_) (fun _ _ h => h.elim)
  rcases hp with ⟨rfl, rfl⟩
  · refine z_weq (w' := zPl (pR _) _ :: _) (congrArg (fun z => z :: _) (zrnP rfl)) ?_; exact K0 trivial
theorem cw_pheavy_bad (Dg : va_G) (P : zPt) (t : Nat) (fp : Int32) (j n d : Nat) (f : Nat → Int32) (what : Int32) (hx : inB what (nI 0) (nI 2) = false) (hj : j < 8) (h : nok n d f) (hP : P j = some (nI n, nI d, f)) (o_ : Nat → Int64) : zCtrWD Dg yX0_heavy cX0_heavy 5 (some .int) [(0, 10, 13, 13)] 30 114 2627 [zr 1 0, zi (nI j), zi what, zr 22 0] ((xH P t fp) ++ [zAl 1 1 o_]) (fun r_ w_ => (∃ v_ w1_, (fun r w => False) (some v_) w1_ ∧ r_ = some (zi (nI 0)) ∧ w_ = w1_ ++ [zAl 1 1 (vp_updL o_ 0 (cvV v_))]) ∨ (∃ E_ w1_, (fun E w => E = eNSE ∧ True ∧ w = xH P t fp) E_ w1_ ∧ r_ = some (zi (nI 1)) ∧ w_ = w1_ ++ [zAl 1 1 o_])) zNx := by
  refine z_startWD (by decide) [some (zr 1 0), some (zi (nI j)), some (zi what), some (zr 22 0), none] rfl (fun _ => Nat.le_of_ble_eq_true rfl) (fun _ => rfl) (fun X hD F E hT hin => ?_)
  subst hD
  have hH : ∀ (k0 n0 : Nat), k0 ≤ 114 → n0 ≤ 2627 → (True) → Z X [some (zr 1 0), some (zi (nI j)), some (zi what), some (zr 22 0), none] [zr 23 0] (xH P t fp ++ [zAl 1 1 o_]) k0 n0 13 := by
    intro k0 n0  hk0 hn0 h_2
    refine z_astore F dX0_heavy_13 (Nat.le_of_ble_eq_true rfl) ?_
    refine z_leq (L' := [_, _, _, _, _]) rfl ?_
    refine z_iconst F (nI 1) dX0_heavy_15 rfl ?_
    exact z_iret F E rfl dX0_heavy_16 (by omega) (by omega) (Or.inr ⟨_, _, ⟨rfl, h_2, rfl⟩, rfl, rfl⟩)
  refine z_aload_n F dX0_heavy_0 rfl ?_
  refine z_iconst F (nI 0) dX0_heavy_1 rfl ?_
  refine z_aload_n F dX0_heavy_2 rfl ?_
  refine z_iload_n F dX0_heavy_3 rfl ?_
  refine z_iload_n F dX0_heavy_4 rfl ?_
  refine z_callV F (c_pheavy_bad P t fp j n d f what hx hj h hP) 2 rfl (lw_V q1371 q1372 q1373 q109 q1374) (by decide +kernel) ⟨Nat.le_of_ble_eq_true rfl, Nat.le_of_ble_eq_true rfl⟩ ⟨by omega, by omega⟩ [0, 1, 2, 3, 4, 5, 6, 7, 8, 9, 10, 11, 12, 13, 14, 15, 16, 17, 18, 19, 20, 21] 23 ⟨rfl, rfl, rfl, ⟨Or.inr (congrArg some (zrnP rfl).symm), Or.inr rfl, Or.inl rfl, Or.inl rfl, Or.inl rfl, Or.inl rfl, Or.inl rfl, Or.inl rfl, Or.inl rfl, Or.inl rfl, Or.inl rfl, Or.inl rfl, Or.inl rfl, Or.inl rfl, Or.inl rfl, Or.inl rfl, Or.inl rfl, Or.inl rfl, Or.inl rfl, Or.inl rfl, Or.inl rfl, Or.inl rfl, trivial⟩⟩ (fun _ => rfl) (Nat.le_of_ble_eq_true rfl) ⟨⟨Or.inl rfl, Or.inl rfl, Or.inr trivial, Or.inr trivial, Or.inr trivial, Or.inr trivial, Or.inr trivial, Or.inr trivial, Or.inr trivial, Or.inr trivial, Or.inr trivial, Or.inr trivial, Or.inr trivial, Or.inr trivial, Or.inr trivial, Or.inr trivial, Or.inr trivial, Or.inr trivial, Or.inr trivial, Or.inr trivial, Or.inr trivial, Or.inr trivial, Or.inr trivial, trivial⟩, rfl, rfl, rfl, Nat.le_of_ble_eq_true rfl⟩ rfl zC1 rfl rfl dX0_heavy_5 (fun r_5 w_5 hp => ?_) (fun E_ w_ hx => by obtain ⟨rfl, h_2, rfl⟩ := hx; exact zx_catch F hT [] ⟨0, 10, 13, 13⟩ [] rfl (fun _ h => nomatch h) (by decide) (by decide) lw_nse (z_weq (w' := zPl (pR _) _ :: _) (congrArg (fun z => z :: _) (zrnP rfl)) (hH _ _  (by omega) (by omega) h_2)))
  exact hp.elim
theorem cw_ptell (Dg : va_G) (P : zPt) (t : Nat) (fp sn0 g0 sm0 : Int32) (D : Nat → Int32) (j n d : Nat) (f : Nat → Int32) (k : Int32) (hj : j < 8) (h : nok n d f) (hP : P j = some (nI n, nI d, f)) (o_ : Nat → Int64) : zCtrWD Dg yX0_tell cX0_tell 5 (some .int) [(0, 10, 13, 13)] 15 30 26700 [zr 1 0, zi (nI j), zi k, zr 22 0] ((xFl P t fp sn0 g0 sm0 D) ++ [zAl 1 1 o_]) (fun r_ w_ => (∃ v_ w1_, (fun r w => ∃ v, v < n ∧ k = nI v ∧ ((n ≤ 10 ∧ cjn n f = true ∧ ∃ ro, ro ≤ 24 ∧ r = some (zi (nI ro)) ∧ (∀ r', r' < ro → ¬ nF n f v r' (2 ^ n - 1)) ∧ nF n f v ro (2 ^ n - 1)) ∨ (¬ (n ≤ 10 ∧ cjn n f = true) ∧ r = some (zi (-1)))) ∧ ∃ sn g sm D, w = xFl P t fp sn g sm D) (some v_) w1_ ∧ r_ = some (zi (nI 0)) ∧ w_ = w1_ ++ [zAl 1 1 (vp_updL o_ 0 (cvV v_))]) ∨ (∃ E_ w1_, (fun E w => E = eNSE ∧ knB n k = false ∧ w = xFl P t fp sn0 g0 sm0 D) E_ w1_ ∧ r_ = some (zi (nI 1)) ∧ w_ = w1_ ++ [zAl 1 1 o_])) zNx := by
  refine z_startWD (by decide) [some (zr 1 0), some (zi (nI j)), some (zi k), some (zr 22 0), none] rfl (fun _ => Nat.le_of_ble_eq_true rfl) (fun _ => rfl) (fun X hD F E hT hin => ?_)
  subst hD
  have K0 : ∀ v ro sn g sm D, (v < n) → (k = nI v) → (n ≤ 10) → (cjn n f = true) → (ro ≤ 24) → (∀ r', r' < ro → ¬ nF n f v r' (2 ^ n - 1)) → (nF n f v ro (2 ^ n - 1)) → Z X [some (zr 1 0), some (zi (nI j)), some (zi k), some (zr 22 0), none] [zi (nI ro), zi (nI 0), zr 22 0] (xFl P t fp sn g sm D ++ [zAl 1 1 o_]) 30 26700 8 := by
    intro v ro sn g sm D h_1 h_2 h_3 h_4 h_5 h_6 h_7
    refine z_i2l F dX0_tell_8 ?_
    refine z_lastN F rfl (Nat.le_of_ble_eq_true rfl) (by omega) dX0_tell_9 ?_
    refine z_weq (w' := [_, _, _, _, _, _, _, _, _, _, _, _, _, _, _, _, _, _, _, _, _, _, _]) rfl ?_
    refine z_goto F (tgt := 17) dX0_tell_10 (by decide) ?_
    refine z_iconst F (nI 0) dX0_tell_17 rfl ?_
    exact z_iret F E rfl dX0_tell_18 (by omega) (by omega) (Or.inl ⟨_, _, ⟨v, h_1, h_2, Or.inl ⟨h_3, h_4, ro, h_5, rfl, h_6, h_7⟩, sn, g, sm, D, rfl⟩, rfl, rfl⟩)
  have K1 : ∀ v sn g sm D, (v < n) → (k = nI v) → (¬ (n ≤ 10 ∧ cjn n f = true)) → Z X [some (zr 1 0), some (zi (nI j)), some (zi k), some (zr 22 0), none] [zi (-1), zi (nI 0), zr 22 0] (xFl P t fp sn g sm D ++ [zAl 1 1 o_]) 30 26700 8 := by
    intro v sn g sm D h_1 h_2 h_8
    refine z_i2l F dX0_tell_8 ?_
    refine z_lastN F rfl (Nat.le_of_ble_eq_true rfl) (by omega) dX0_tell_9 ?_
    refine z_weq (w' := [_, _, _, _, _, _, _, _, _, _, _, _, _, _, _, _, _, _, _, _, _, _, _]) rfl ?_
    refine z_goto F (tgt := 17) dX0_tell_10 (by decide) ?_
    refine z_iconst F (nI 0) dX0_tell_17 rfl ?_
    exact z_iret F E rfl dX0_tell_18 (by omega) (by omega) (Or.inl ⟨_, _, ⟨v, h_1, h_2, Or.inr ⟨h_8, rfl⟩, sn, g, sm, D, rfl⟩, rfl, rfl⟩)
  have hH : ∀ (k0 n0 : Nat), k0 ≤ 30 → n0 ≤ 26700 → (knB n k = false) → Z X [some (zr 1 0), some (zi (nI j)), some (zi k), some (zr 22 0), none] [zr 23 0] (xFl P t fp sn0 g0 sm0 D ++ [zAl 1 1 o_]) k0 n0 13 := by
    intro k0 n0  hk0 hn0 h_9
    refine z_astore F dX0_tell_13 (Nat.le_of_ble_eq_true rfl) ?_
    refine z_leq (L' := [_, _, _, _, _]) rfl ?_
    refine z_iconst F (nI 1) dX0_tell_15 rfl ?_
    exact z_iret F E rfl dX0_tell_16 (by omega) (by omega) (Or.inr ⟨_, _, ⟨rfl, h_9, rfl⟩, rfl, rfl⟩)
  refine z_aload_n F dX0_tell_0 rfl ?_
  refine z_iconst F (nI 0) dX0_tell_1 rfl ?_
  refine z_aload_n F dX0_tell_2 rfl ?_
  refine z_iload_n F dX0_tell_3 rfl ?_
  refine z_iload_n F dX0_tell_4 rfl ?_
  refine z_callV F (c_ptell P t fp sn0 g0 sm0 D j n d f k hj h hP) 2 rfl (lw_V q1420 q1421 q1422 q109 q1423) (by decide +kernel) ⟨Nat.le_of_ble_eq_true rfl, Nat.le_of_ble_eq_true rfl⟩ ⟨by omega, by omega⟩ [0, 1, 2, 3, 4, 5, 6, 7, 8, 9, 10, 11, 12, 13, 14, 15, 16, 17, 18, 19, 20, 21] 23 ⟨rfl, rfl, rfl, ⟨Or.inr (congrArg some (zrnP rfl).symm), Or.inr rfl, Or.inl rfl, Or.inr rfl, Or.inr rfl, Or.inl rfl, Or.inl rfl, Or.inl rfl, Or.inl rfl, Or.inl rfl, Or.inl rfl, Or.inl rfl, Or.inl rfl, Or.inl rfl, Or.inl rfl, Or.inl rfl, Or.inl rfl, Or.inl rfl, Or.inl rfl, Or.inl rfl, Or.inl rfl, Or.inl rfl, trivial⟩⟩ (fun _ => rfl) (Nat.le_of_ble_eq_true rfl) ⟨⟨Or.inl rfl, Or.inl rfl, Or.inr trivial, Or.inl rfl, Or.inl rfl, Or.inr trivial, Or.inr trivial, Or.inr trivial, Or.inr trivial, Or.inr trivial, Or.inr trivial, Or.inr trivial, Or.inr trivial, Or.inr trivial, Or.inr trivial, Or.inr trivial, Or.inr trivial, Or.inr trivial, Or.inr trivial, Or.inr trivial, Or.inr trivial, Or.inr trivial, Or.inr trivial, trivial⟩, rfl, rfl, rfl, Nat.le_of_ble_eq_true rfl⟩ rfl zC1 rfl rfl dX0_tell_5 (fun r_5 w_5 hp => ?_) (fun E_ w_ hx => by obtain ⟨rfl, h_9, rfl⟩ := hx; exact zx_catch F hT [] ⟨0, 10, 13, 13⟩ [] rfl (fun _ h => nomatch h) (by decide) (by decide) lw_nse (z_weq (w' := zPl (pR _) _ :: _) (congrArg (fun z => z :: _) (zrnP rfl)) (hH _ _  (by omega) (by omega) h_9)))
  rcases hp with ⟨v, h_1, h_2, (⟨h_3, h_4, ro, h_5, rfl, h_6, h_7⟩ | ⟨h_8, rfl⟩), sn, g, sm, D, rfl⟩
  · refine z_weq (w' := zPl (pR _) _ :: _) (congrArg (fun z => z :: _) (zrnP rfl)) ?_; exact K0 v ro sn g sm D h_1 h_2 h_3 h_4 h_5 h_6 h_7
  · refine z_weq (w' := zPl (pR _) _ :: _) (congrArg (fun z => z :: _) (zrnP rfl)) ?_; exact K1 v sn g sm D h_1 h_2 h_8
theorem cw_pfalls_A (Dg : va_G) (P : zPt) (t : Nat) (fp sn0 g0 sm0 : Int32) (Df0 : Nat → Int32) (m0 : Int32) (j n d kind many : Nat) (f : Nat → Int32) (hj : j < 8) (h : nok n d f) (hP : P j = some (nI n, nI d, f)) (hk : kind < 2) (hm : many < 3) (o_ : Nat → Int64) : zCtrWD Dg yX0_falls cX0_falls 6 (some .int) [(0, 12, 15, 13), (0, 12, 19, 22)] 9 8 160 [zr 1 0, zi (nI j), zi (nI kind), zi (nI many), zr 22 0] ((xFa P t fp sn0 g0 sm0 Df0 (eLs m0 0 (zq (Dg.2 1001 1))) zH) ++ [zAl 1 1 o_]) (fun r_ w_ => (∃ v_ w1_, (fun r w => ∃ sn g sm Df1, (few many kind n f ∧ r = some (zi (-1)) ∧ w = xFa P t fp sn g sm Df1 (eLs m0 0 (zq (Dg.2 1001 1))) zH) ∨ (¬ few many kind n f ∧ ∃ b, flO many kind n f = some b ∧ r = some (zi (nI b.1)) ∧ ((many = 0 ∧ ∃ m1, w = xFa P t fp sn g sm Df1 (eLs m1 0 (zq (Dg.2 1001 1))) zH) ∨ (1 ≤ many ∧ ∃ m1 g1, w = xFa P t fp sn g sm Df1 (eLs m1 many (zr 25 0)) zH ++ [zH, zH, zH, zAv 10 g1] ∧ g1 0 = .ref (Dg.2 1000 (b.2.1 + 128)) ∧ (many = 2 → g1 1 = .ref (Dg.2 1000 (b.2.2 + 128))))))) (some v_) w1_ ∧ r_ = some (zi (nI 0)) ∧ w_ = w1_ ++ [zAl 1 1 (vp_updL o_ 0 (cvV v_))])) zNx := by
  refine z_startWD (by decide) [some (zr 1 0), some (zi (nI j)), some (zi (nI kind)), some (zi (nI many)), some (zr 22 0), none] rfl (fun _ => Nat.le_of_ble_eq_true rfl) (fun _ => rfl) (fun X hD F E hT hin => ?_)
  subst hD
  have K0 : ∀ sn g sm Df1, (few many kind n f) → Z X [some (zr 1 0), some (zi (nI j)), some (zi (nI kind)), some (zi (nI many)), some (zr 22 0), none] [zi (-1), zi (nI 0), zr 22 0] (xFa P t fp sn g sm Df1 (eLs m0 0 (zq (X.2.2.1.2 1001 1))) zH ++ [zAl 1 1 o_]) 8 160 10 := by
    intro sn g sm Df1 h_1
    refine z_i2l F dX0_falls_10 ?_
    refine z_lastN F rfl (Nat.le_of_ble_eq_true rfl) (by omega) dX0_falls_11 ?_
    refine z_weq (w' := [_, _, _, _, _, _, _, _, _, _, _, _, _, _, _, _, _, _, _, _, _, _, _]) rfl ?_
    refine z_goto F (tgt := 23) dX0_falls_12 (by decide) ?_
    refine z_iconst F (nI 0) dX0_falls_23 rfl ?_
    exact z_iret F E rfl dX0_falls_24 (by omega) (by omega) (⟨_, _, ⟨sn, g, sm, Df1, Or.inl ⟨h_1, rfl, rfl⟩⟩, rfl, rfl⟩)
  have K1 : ∀ sn g sm Df1 b m1, (¬ few many kind n f) → (flO many kind n f = some b) → (many = 0) → Z X [some (zr 1 0), some (zi (nI j)), some (zi (nI kind)), some (zi (nI many)), some (zr 22 0), none] [zi (nI b.1), zi (nI 0), zr 22 0] (xFa P t fp sn g sm Df1 (eLs m1 0 (zq (X.2.2.1.2 1001 1))) zH ++ [zAl 1 1 o_]) 8 160 10 := by
    intro sn g sm Df1 b m1 h_2 h_3 h_4
    refine z_i2l F dX0_falls_10 ?_
    refine z_lastN F rfl (Nat.le_of_ble_eq_true rfl) (by omega) dX0_falls_11 ?_
    refine z_weq (w' := [_, _, _, _, _, _, _, _, _, _, _, _, _, _, _, _, _, _, _, _, _, _, _]) rfl ?_
    refine z_goto F (tgt := 23) dX0_falls_12 (by decide) ?_
    refine z_iconst F (nI 0) dX0_falls_23 rfl ?_
    exact z_iret F E rfl dX0_falls_24 (by omega) (by omega) (⟨_, _, ⟨sn, g, sm, Df1, Or.inr ⟨h_2, b, h_3, rfl, Or.inl ⟨h_4, m1, rfl⟩⟩⟩, rfl, rfl⟩)
  have K2 : ∀ sn g sm Df1 b m1 g1, (¬ few many kind n f) → (flO many kind n f = some b) → (1 ≤ many) → (g1 0 = .ref (X.2.2.1.2 1000 (b.2.1 + 128))) → (many = 2 → g1 1 = .ref (X.2.2.1.2 1000 (b.2.2 + 128))) → Z X [some (zr 1 0), some (zi (nI j)), some (zi (nI kind)), some (zi (nI many)), some (zr 22 0), none] [zi (nI b.1), zi (nI 0), zr 22 0] (xFa P t fp sn g sm Df1 (eLs m1 many (zr 25 0)) zH ++ [zH, zH, zH, zAv 10 g1] ++ [zAl 1 1 o_]) 8 160 10 := by
    intro sn g sm Df1 b m1 g1 h_2 h_3 h_5 h_6 h_7
    refine z_i2l F dX0_falls_10 ?_
    refine z_lastN F rfl (Nat.le_of_ble_eq_true rfl) (by omega) dX0_falls_11 ?_
    refine z_weq (w' := [_, _, _, _, _, _, _, _, _, _, _, _, _, _, _, _, _, _, _, _, _, _, _]) rfl ?_
    refine z_goto F (tgt := 23) dX0_falls_12 (by decide) ?_
    refine z_iconst F (nI 0) dX0_falls_23 rfl ?_
    exact z_iret F E rfl dX0_falls_24 (by omega) (by omega) (⟨_, _, ⟨sn, g, sm, Df1, Or.inr ⟨h_2, b, h_3, rfl, Or.inr ⟨h_5, m1, g1, rfl, h_6, h_7⟩⟩⟩, rfl, rfl⟩)
  refine z_aload F dX0_falls_0 rfl ?_
  refine z_iconst F (nI 0) dX0_falls_2 rfl ?_
  refine z_aload_n F dX0_falls_3 rfl ?_
  refine z_iload_n F dX0_falls_4 rfl ?_
  refine z_iload_n F dX0_falls_5 rfl ?_
  refine z_iload_n F dX0_falls_6 rfl ?_
  refine z_callVD F (c_pfalls_A _ P t fp sn0 g0 sm0 Df0 m0 j n d kind many f hj h hP hk hm) 3 rfl (lw_V q1067 q1068 q1069 q109 q1070) (by decide +kernel) ⟨Nat.le_of_ble_eq_true rfl, Nat.le_of_ble_eq_true rfl⟩ ⟨by omega, by omega⟩ [0, 1, 2, 3, 4, 5, 6, 7, 8, 9, 10, 11, 12, 13, 14, 15, 16, 17, 18, 19, 20, 21] 23 ⟨rfl, rfl, rfl, ⟨Or.inr (congrArg some (zrnP rfl).symm), Or.inr rfl, Or.inl rfl, Or.inr rfl, Or.inr rfl, Or.inl rfl, Or.inl rfl, Or.inl rfl, Or.inl rfl, Or.inr rfl, Or.inl rfl, Or.inl rfl, Or.inl rfl, Or.inl rfl, Or.inl rfl, Or.inl rfl, Or.inl rfl, Or.inl rfl, Or.inl rfl, Or.inl rfl, Or.inl rfl, Or.inl rfl, trivial⟩⟩ (fun _ => rfl) (Nat.le_of_ble_eq_true rfl) ⟨⟨Or.inl rfl, Or.inl rfl, Or.inr trivial, Or.inl rfl, Or.inl rfl, Or.inr trivial, Or.inr trivial, Or.inr trivial, Or.inr trivial, Or.inl rfl, Or.inr trivial, Or.inr trivial, Or.inr trivial, Or.inr trivial, Or.inr trivial, Or.inr trivial, Or.inr trivial, Or.inr trivial, Or.inr trivial, Or.inr trivial, Or.inr trivial, Or.inr trivial, Or.inr trivial, trivial⟩, rfl, rfl, rfl, Nat.le_of_ble_eq_true rfl⟩ rfl zC1 rfl rfl dX0_falls_7 (fun r_7 w_7 hp => ?_) (fun _ _ h => h.elim)
  rcases hp with ⟨sn, g, sm, Df1, (⟨h_1, rfl, rfl⟩ | ⟨h_2, b, h_3, rfl, (⟨h_4, m1, rfl⟩ | ⟨h_5, m1, g1, rfl, h_6, h_7⟩)⟩)⟩
  · refine z_weq (w' := zPl (pR _) _ :: _) (congrArg (fun z => z :: _) (zrnP rfl)) ?_; exact K0 sn g sm Df1 h_1
  · refine z_weq (w' := zPl (pR _) _ :: _) (congrArg (fun z => z :: _) (zrnP rfl)) ?_; exact K1 sn g sm Df1 b m1 h_2 h_3 h_4
  · refine z_weq (w' := zPl (pR _) _ :: _) (congrArg (fun z => z :: _) (zrnP rfl)) ?_; exact K2 sn g sm Df1 b m1 g1 h_2 h_3 h_5 h_6 h_7
theorem cw_pfalls_B (Dg : va_G) (P : zPt) (t : Nat) (fp sn0 g0 sm0 : Int32) (Df0 : Nat → Int32) (m0 : Int32) (c0 : Nat) (ga : Nat → Value) (hc0 : c0 ≤ 10) (j n d kind many : Nat) (f : Nat → Int32) (hj : j < 8) (h : nok n d f) (hP : P j = some (nI n, nI d, f)) (hk : kind < 2) (hm : many < 3) (o_ : Nat → Int64) : zCtrWD Dg yX0_falls cX0_falls 6 (some .int) [(0, 12, 15, 13), (0, 12, 19, 22)] 9 8 160 [zr 1 0, zi (nI j), zi (nI kind), zi (nI many), zr 22 0] ((xFa P t fp sn0 g0 sm0 Df0 (eLs m0 c0 (zr 10 0)) (zAv 10 ga)) ++ [zAl 1 1 o_]) (fun r_ w_ => (∃ v_ w1_, (fun r w => ∃ sn g sm Df1, (few many kind n f ∧ r = some (zi (-1)) ∧ w = xFa P t fp sn g sm Df1 (eLs m0 c0 (zr 10 0)) (zAv 10 ga)) ∨ (¬ few many kind n f ∧ ∃ b, flO many kind n f = some b ∧ r = some (zi (nI b.1)) ∧ (∃ m1 g1, w = xFa P t fp sn g sm Df1 (eLs m1 many (zr 10 0)) (zAv 10 g1) ∧ (1 ≤ many → g1 0 = .ref (Dg.2 1000 (b.2.1 + 128))) ∧ (many = 2 → g1 1 = .ref (Dg.2 1000 (b.2.2 + 128)))))) (some v_) w1_ ∧ r_ = some (zi (nI 0)) ∧ w_ = w1_ ++ [zAl 1 1 (vp_updL o_ 0 (cvV v_))])) zNx := by
  refine z_startWD (by decide) [some (zr 1 0), some (zi (nI j)), some (zi (nI kind)), some (zi (nI many)), some (zr 22 0), none] rfl (fun _ => Nat.le_of_ble_eq_true rfl) (fun _ => rfl) (fun X hD F E hT hin => ?_)
  subst hD
  have K0 : ∀ sn g sm Df1, (few many kind n f) → Z X [some (zr 1 0), some (zi (nI j)), some (zi (nI kind)), some (zi (nI many)), some (zr 22 0), none] [zi (-1), zi (nI 0), zr 22 0] (xFa P t fp sn g sm Df1 (eLs m0 c0 (zr 10 0)) (zAv 10 ga) ++ [zAl 1 1 o_]) 8 160 10 := by
    intro sn g sm Df1 h_1
    refine z_i2l F dX0_falls_10 ?_
    refine z_lastN F rfl (Nat.le_of_ble_eq_true rfl) (by omega) dX0_falls_11 ?_
    refine z_weq (w' := [_, _, _, _, _, _, _, _, _, _, _, _, _, _, _, _, _, _, _, _, _, _, _]) rfl ?_
    refine z_goto F (tgt := 23) dX0_falls_12 (by decide) ?_
    refine z_iconst F (nI 0) dX0_falls_23 rfl ?_
    exact z_iret F E rfl dX0_falls_24 (by omega) (by omega) (⟨_, _, ⟨sn, g, sm, Df1, Or.inl ⟨h_1, rfl, rfl⟩⟩, rfl, rfl⟩)
  have K1 : ∀ sn g sm Df1 b m1 g1, (¬ few many kind n f) → (flO many kind n f = some b) → (1 ≤ many → g1 0 = .ref (X.2.2.1.2 1000 (b.2.1 + 128))) → (many = 2 → g1 1 = .ref (X.2.2.1.2 1000 (b.2.2 + 128))) → Z X [some (zr 1 0), some (zi (nI j)), some (zi (nI kind)), some (zi (nI many)), some (zr 22 0), none] [zi (nI b.1), zi (nI 0), zr 22 0] (xFa P t fp sn g sm Df1 (eLs m1 many (zr 10 0)) (zAv 10 g1) ++ [zAl 1 1 o_]) 8 160 10 := by
    intro sn g sm Df1 b m1 g1 h_2 h_3 h_4 h_5
    refine z_i2l F dX0_falls_10 ?_
    refine z_lastN F rfl (Nat.le_of_ble_eq_true rfl) (by omega) dX0_falls_11 ?_
    refine z_weq (w' := [_, _, _, _, _, _, _, _, _, _, _, _, _, _, _, _, _, _, _, _, _, _, _]) rfl ?_
    refine z_goto F (tgt := 23) dX0_falls_12 (by decide) ?_
    refine z_iconst F (nI 0) dX0_falls_23 rfl ?_
    exact z_iret F E rfl dX0_falls_24 (by omega) (by omega) (⟨_, _, ⟨sn, g, sm, Df1, Or.inr ⟨h_2, b, h_3, rfl, m1, g1, rfl, h_4, h_5⟩⟩, rfl, rfl⟩)
  refine z_aload F dX0_falls_0 rfl ?_
  refine z_iconst F (nI 0) dX0_falls_2 rfl ?_
  refine z_aload_n F dX0_falls_3 rfl ?_
  refine z_iload_n F dX0_falls_4 rfl ?_
  refine z_iload_n F dX0_falls_5 rfl ?_
  refine z_iload_n F dX0_falls_6 rfl ?_
  refine z_callVD F (c_pfalls_B _ P t fp sn0 g0 sm0 Df0 m0 c0 ga hc0 j n d kind many f hj h hP hk hm) 3 rfl (lw_V q1067 q1068 q1069 q109 q1070) (by decide +kernel) ⟨Nat.le_of_ble_eq_true rfl, Nat.le_of_ble_eq_true rfl⟩ ⟨by omega, by omega⟩ [0, 1, 2, 3, 4, 5, 6, 7, 8, 9, 10, 11, 12, 13, 14, 15, 16, 17, 18, 19, 20, 21] 23 ⟨rfl, rfl, rfl, ⟨Or.inr (congrArg some (zrnP rfl).symm), Or.inr rfl, Or.inl rfl, Or.inr rfl, Or.inr rfl, Or.inl rfl, Or.inl rfl, Or.inl rfl, Or.inl rfl, Or.inr rfl, Or.inr rfl, Or.inl rfl, Or.inl rfl, Or.inl rfl, Or.inl rfl, Or.inl rfl, Or.inl rfl, Or.inl rfl, Or.inl rfl, Or.inl rfl, Or.inl rfl, Or.inl rfl, trivial⟩⟩ (fun _ => rfl) (Nat.le_of_ble_eq_true rfl) ⟨⟨Or.inl rfl, Or.inl rfl, Or.inr trivial, Or.inl rfl, Or.inl rfl, Or.inr trivial, Or.inr trivial, Or.inr trivial, Or.inr trivial, Or.inl rfl, Or.inl rfl, Or.inr trivial, Or.inr trivial, Or.inr trivial, Or.inr trivial, Or.inr trivial, Or.inr trivial, Or.inr trivial, Or.inr trivial, Or.inr trivial, Or.inr trivial, Or.inr trivial, Or.inr trivial, trivial⟩, rfl, rfl, rfl, Nat.le_of_ble_eq_true rfl⟩ rfl zC1 rfl rfl dX0_falls_7 (fun r_7 w_7 hp => ?_) (fun _ _ h => h.elim)
  rcases hp with ⟨sn, g, sm, Df1, (⟨h_1, rfl, rfl⟩ | ⟨h_2, b, h_3, rfl, m1, g1, rfl, h_4, h_5⟩)⟩
  · refine z_weq (w' := zPl (pR _) _ :: _) (congrArg (fun z => z :: _) (zrnP rfl)) ?_; exact K0 sn g sm Df1 h_1
  · refine z_weq (w' := zPl (pR _) _ :: _) (congrArg (fun z => z :: _) (zrnP rfl)) ?_; exact K1 sn g sm Df1 b m1 g1 h_2 h_3 h_4 h_5
theorem cw_pfalls_badK (Dg : va_G) (P : zPt) (t : Nat) (fp : Int32) (j n d : Nat) (f : Nat → Int32) (kind many : Int32) (hj : j < 8) (h : nok n d f) (hP : P j = some (nI n, nI d, f)) (hk : ¬ kind = nI 0 ∧ ¬ kind = nI 1) (o_ : Nat → Int64) : zCtrWD Dg yX0_falls cX0_falls 6 (some .int) [(0, 12, 15, 13), (0, 12, 19, 22)] 9 8 160 [zr 1 0, zi (nI j), zi kind, zi many, zr 22 0] ((xH P t fp) ++ [zAl 1 1 o_]) (fun r_ w_ => (∃ v_ w1_, (fun r v => False) (some v_) w1_ ∧ r_ = some (zi (nI 0)) ∧ w_ = w1_ ++ [zAl 1 1 (vp_updL o_ 0 (cvV v_))]) ∨ (∃ E_ w1_, (fun E w => E = eNSE ∧ True ∧ w = xH P t fp) E_ w1_ ∧ r_ = some (zi (nI 1)) ∧ w_ = w1_ ++ [zAl 1 1 o_])) zNx := by
  refine z_startWD (by decide) [some (zr 1 0), some (zi (nI j)), some (zi kind), some (zi many), some (zr 22 0), none] rfl (fun _ => Nat.le_of_ble_eq_true rfl) (fun _ => rfl) (fun X hD F E hT hin => ?_)
  subst hD
  have hH : ∀ (k0 n0 : Nat), k0 ≤ 8 → n0 ≤ 160 → (True) → Z X [some (zr 1 0), some (zi (nI j)), some (zi kind), some (zi many), some (zr 22 0), none] [zr 23 0] (xH P t fp ++ [zAl 1 1 o_]) k0 n0 15 := by
    intro k0 n0  hk0 hn0 h_2
    refine z_astore F dX0_falls_15 (Nat.le_of_ble_eq_true rfl) ?_
    refine z_leq (L' := [_, _, _, _, _, _]) rfl ?_
    refine z_iconst F (nI 1) dX0_falls_17 rfl ?_
    exact z_iret F E rfl dX0_falls_18 (by omega) (by omega) (Or.inr ⟨_, _, ⟨rfl, h_2, rfl⟩, rfl, rfl⟩)
  refine z_aload F dX0_falls_0 rfl ?_
  refine z_iconst F (nI 0) dX0_falls_2 rfl ?_
  refine z_aload_n F dX0_falls_3 rfl ?_
  refine z_iload_n F dX0_falls_4 rfl ?_
  refine z_iload_n F dX0_falls_5 rfl ?_
  refine z_iload_n F dX0_falls_6 rfl ?_
  refine z_callV F (c_pfalls_badK P t fp j n d f kind many hj h hP hk) 3 rfl (lw_V q1067 q1068 q1069 q109 q1070) (by decide +kernel) ⟨Nat.le_of_ble_eq_true rfl, Nat.le_of_ble_eq_true rfl⟩ ⟨by omega, by omega⟩ [0, 1, 2, 3, 4, 5, 6, 7, 8, 9, 10, 11, 12, 13, 14, 15, 16, 17, 18, 19, 20, 21] 23 ⟨rfl, rfl, rfl, ⟨Or.inr (congrArg some (zrnP rfl).symm), Or.inr rfl, Or.inl rfl, Or.inl rfl, Or.inl rfl, Or.inl rfl, Or.inl rfl, Or.inl rfl, Or.inl rfl, Or.inl rfl, Or.inl rfl, Or.inl rfl, Or.inl rfl, Or.inl rfl, Or.inl rfl, Or.inl rfl, Or.inl rfl, Or.inl rfl, Or.inl rfl, Or.inl rfl, Or.inl rfl, Or.inl rfl, trivial⟩⟩ (fun _ => rfl) (Nat.le_of_ble_eq_true rfl) ⟨⟨Or.inl rfl, Or.inl rfl, Or.inr trivial, Or.inr trivial, Or.inr trivial, Or.inr trivial, Or.inr trivial, Or.inr trivial, Or.inr trivial, Or.inr trivial, Or.inr trivial, Or.inr trivial, Or.inr trivial, Or.inr trivial, Or.inr trivial, Or.inr trivial, Or.inr trivial, Or.inr trivial, Or.inr trivial, Or.inr trivial, Or.inr trivial, Or.inr trivial, Or.inr trivial, trivial⟩, rfl, rfl, rfl, Nat.le_of_ble_eq_true rfl⟩ rfl zC1 rfl rfl dX0_falls_7 (fun r_7 w_7 hp => ?_) (fun E_ w_ hx => by obtain ⟨rfl, h_2, rfl⟩ := hx; exact zx_catch F hT [] ⟨0, 12, 15, 13⟩ [⟨0, 12, 19, 22⟩] rfl (fun _ h => nomatch h) (by decide) (by decide) lw_nse (z_weq (w' := zPl (pR _) _ :: _) (congrArg (fun z => z :: _) (zrnP rfl)) (hH _ _  (by omega) (by omega) h_2)))
  exact hp.elim
theorem cw_pfalls_badM (Dg : va_G) (P : zPt) (t : Nat) (fp : Int32) (j n d kind : Nat) (f : Nat → Int32) (many : Int32) (hj : j < 8) (h : nok n d f) (hP : P j = some (nI n, nI d, f)) (hk : kind < 2) (hx : inB many (nI 0) (nI 2) = false) (o_ : Nat → Int64) : zCtrWD Dg yX0_falls cX0_falls 6 (some .int) [(0, 12, 15, 13), (0, 12, 19, 22)] 9 8 160 [zr 1 0, zi (nI j), zi (nI kind), zi many, zr 22 0] ((xH P t fp) ++ [zAl 1 1 o_]) (fun r_ w_ => (∃ v_ w1_, (fun r v => False) (some v_) w1_ ∧ r_ = some (zi (nI 0)) ∧ w_ = w1_ ++ [zAl 1 1 (vp_updL o_ 0 (cvV v_))]) ∨ (∃ E_ w1_, (fun E w => E = eIAE ∧ True ∧ w = xH P t fp) E_ w1_ ∧ r_ = some (zi (nI 2)) ∧ w_ = w1_ ++ [zAl 1 1 o_])) zNx := by
  refine z_startWD (by decide) [some (zr 1 0), some (zi (nI j)), some (zi (nI kind)), some (zi many), some (zr 22 0), none] rfl (fun _ => Nat.le_of_ble_eq_true rfl) (fun _ => rfl) (fun X hD F E hT hin => ?_)
  subst hD
  have hH : ∀ (k0 n0 : Nat), k0 ≤ 8 → n0 ≤ 160 → (True) → Z X [some (zr 1 0), some (zi (nI j)), some (zi (nI kind)), some (zi many), some (zr 22 0), none] [zr 23 0] (xH P t fp ++ [zAl 1 1 o_]) k0 n0 19 := by
    intro k0 n0  hk0 hn0 h_2
    refine z_astore F dX0_falls_19 (Nat.le_of_ble_eq_true rfl) ?_
    refine z_leq (L' := [_, _, _, _, _, _]) rfl ?_
    refine z_iconst F (nI 2) dX0_falls_21 rfl ?_
    exact z_iret F E rfl dX0_falls_22 (by omega) (by omega) (Or.inr ⟨_, _, ⟨rfl, h_2, rfl⟩, rfl, rfl⟩)
  refine z_aload F dX0_falls_0 rfl ?_
  refine z_iconst F (nI 0) dX0_falls_2 rfl ?_
  refine z_aload_n F dX0_falls_3 rfl ?_
  refine z_iload_n F dX0_falls_4 rfl ?_
  refine z_iload_n F dX0_falls_5 rfl ?_
  refine z_iload_n F dX0_falls_6 rfl ?_
  refine z_callV F (c_pfalls_badM P t fp j n d kind f many hj h hP hk hx) 3 rfl (lw_V q1067 q1068 q1069 q109 q1070) (by decide +kernel) ⟨Nat.le_of_ble_eq_true rfl, Nat.le_of_ble_eq_true rfl⟩ ⟨by omega, by omega⟩ [0, 1, 2, 3, 4, 5, 6, 7, 8, 9, 10, 11, 12, 13, 14, 15, 16, 17, 18, 19, 20, 21] 23 ⟨rfl, rfl, rfl, ⟨Or.inr (congrArg some (zrnP rfl).symm), Or.inr rfl, Or.inl rfl, Or.inl rfl, Or.inl rfl, Or.inl rfl, Or.inl rfl, Or.inl rfl, Or.inl rfl, Or.inl rfl, Or.inl rfl, Or.inl rfl, Or.inl rfl, Or.inl rfl, Or.inl rfl, Or.inl rfl, Or.inl rfl, Or.inl rfl, Or.inl rfl, Or.inl rfl, Or.inl rfl, Or.inl rfl, trivial⟩⟩ (fun _ => rfl) (Nat.le_of_ble_eq_true rfl) ⟨⟨Or.inl rfl, Or.inl rfl, Or.inr trivial, Or.inr trivial, Or.inr trivial, Or.inr trivial, Or.inr trivial, Or.inr trivial, Or.inr trivial, Or.inr trivial, Or.inr trivial, Or.inr trivial, Or.inr trivial, Or.inr trivial, Or.inr trivial, Or.inr trivial, Or.inr trivial, Or.inr trivial, Or.inr trivial, Or.inr trivial, Or.inr trivial, Or.inr trivial, Or.inr trivial, trivial⟩, rfl, rfl, rfl, Nat.le_of_ble_eq_true rfl⟩ rfl zC1 rfl rfl dX0_falls_7 (fun r_7 w_7 hp => ?_) (fun E_ w_ hx => by obtain ⟨rfl, h_2, rfl⟩ := hx; exact zx_catch2 F hT ⟨0, 12, 15, 13⟩ ⟨0, 12, 19, 22⟩ rfl (by decide) (by decide) (by decide) lw_nse lw_iae (z_weq (w' := zPl (pR _) _ :: _) (congrArg (fun z => z :: _) (zrnP rfl)) (hH _ _  (by omega) (by omega) h_2)))
  exact hp.elim
theorem cw_pfallen (Dg : va_G) (P : zPt) (t : Nat) (fp : Int32) (m0 : Int32) (c i x : Nat) (g : Nat → Value) (hi : i < c) (hc : c ≤ 2) (hx : x < 128) (hg : g i = .ref (Dg.2 1000 (x + 128))) (o_ : Nat → Int64) : zCtrWD Dg yX0_fallen cX0_fallen 4 (some .int) [(0, 9, 12, 13)] 9 1 6 [zr 1 0, zi (nI i), zr 22 0] ((xLs P t fp (eLs m0 c (zr 10 0)) (zAv 10 g)) ++ [zAl 1 1 o_]) (fun r_ w_ => (∃ v_ w1_, (fun r w => r = some (zi (nI x)) ∧ w = xLs P t fp (eLs m0 c (zr 10 0)) (zAv 10 g)) (some v_) w1_ ∧ r_ = some (zi (nI 0)) ∧ w_ = w1_ ++ [zAl 1 1 (vp_updL o_ 0 (cvV v_))])) zNx := by
  refine z_startWD (by decide) [some (zr 1 0), some (zi (nI i)), some (zr 22 0), none] rfl (fun _ => Nat.le_of_ble_eq_true rfl) (fun _ => rfl) (fun X hD F E hT hin => ?_)
  subst hD
  have K0 : ∀ (_ : True), Z X [some (zr 1 0), some (zi (nI i)), some (zr 22 0), none] [zi (nI x), zi (nI 0), zr 22 0] (xLs P t fp (eLs m0 c (zr 10 0)) (zAv 10 g) ++ [zAl 1 1 o_]) 1 6 7 := by
    intro _ 
    refine z_i2l F dX0_fallen_7 ?_
    refine z_lastN F rfl (Nat.le_of_ble_eq_true rfl) (by omega) dX0_fallen_8 ?_
    refine z_weq (w' := [_, _, _, _, _, _, _, _, _, _, _, _, _, _, _, _, _, _, _, _, _, _, _]) rfl ?_
    refine z_goto F (tgt := 15) dX0_fallen_9 (by decide) ?_
    refine z_iconst F (nI 0) dX0_fallen_15 rfl ?_
    exact z_iret F E rfl dX0_fallen_16 (by omega) (by omega) (⟨_, _, ⟨rfl, rfl⟩, rfl, rfl⟩)
  refine z_aload_n F dX0_fallen_0 rfl ?_
  refine z_iconst F (nI 0) dX0_fallen_1 rfl ?_
  refine z_aload_n F dX0_fallen_2 rfl ?_
  refine z_iload_n F dX0_fallen_3 rfl ?_
  refine z_callVD F (c_pfallen _ P t fp m0 c i x g hi hc hx hg) 1 rfl (lw_V q1176 q1177 q1178 q109 q1179) (by decide +kernel) ⟨Nat.le_of_ble_eq_true rfl, Nat.le_of_ble_eq_true rfl⟩ ⟨by omega, by omega⟩ [0, 1, 2, 3, 4, 5, 6, 7, 8, 9, 10, 11, 12, 13, 14, 15, 16, 17, 18, 19, 20, 21] 23 ⟨rfl, rfl, rfl, ⟨Or.inr (congrArg some (zrnP rfl).symm), Or.inr rfl, Or.inl rfl, Or.inl rfl, Or.inl rfl, Or.inl rfl, Or.inl rfl, Or.inl rfl, Or.inl rfl, Or.inr rfl, Or.inr rfl, Or.inl rfl, Or.inl rfl, Or.inl rfl, Or.inl rfl, Or.inl rfl, Or.inl rfl, Or.inl rfl, Or.inl rfl, Or.inl rfl, Or.inl rfl, Or.inl rfl, trivial⟩⟩ (fun _ => rfl) (Nat.le_of_ble_eq_true rfl) ⟨⟨Or.inl rfl, Or.inl rfl, Or.inr trivial, Or.inr trivial, Or.inr trivial, Or.inr trivial, Or.inr trivial, Or.inr trivial, Or.inr trivial, Or.inl rfl, Or.inl rfl, Or.inr trivial, Or.inr trivial, Or.inr trivial, Or.inr trivial, Or.inr trivial, Or.inr trivial, Or.inr trivial, Or.inr trivial, Or.inr trivial, Or.inr trivial, Or.inr trivial, Or.inr trivial, trivial⟩, rfl, rfl, rfl, Nat.le_of_ble_eq_true rfl⟩ rfl zC1 rfl rfl dX0_fallen_4 (fun r_4 w_4 hp => ?_) (fun _ _ h => h.elim)
  rcases hp with ⟨rfl, rfl⟩
  · refine z_weq (w' := zPl (pR _) _ :: _) (congrArg (fun z => z :: _) (zrnP rfl)) ?_; exact K0 trivial
theorem cw_pfallen_badA (Dg : va_G) (P : zPt) (t : Nat) (fp : Int32) (m0 x : Int32) (a : Nat) (o_ : Nat → Int64) : zCtrWD Dg yX0_fallen cX0_fallen 4 (some .int) [(0, 9, 12, 13)] 9 1 6 [zr 1 0, zi x, zr 22 0] ((xLs P t fp (eLs m0 0 (zq a)) zH) ++ [zAl 1 1 o_]) (fun r_ w_ => (∃ v_ w1_, (fun r w => False) (some v_) w1_ ∧ r_ = some (zi (nI 0)) ∧ w_ = w1_ ++ [zAl 1 1 (vp_updL o_ 0 (cvV v_))]) ∨ (∃ E_ w1_, (fun E w => E = eNSE ∧ True ∧ w = xLs P t fp (eLs m0 0 (zq a)) zH) E_ w1_ ∧ r_ = some (zi (nI 1)) ∧ w_ = w1_ ++ [zAl 1 1 o_])) zNx := by
  refine z_startWD (by decide) [some (zr 1 0), some (zi x), some (zr 22 0), none] rfl (fun _ => Nat.le_of_ble_eq_true rfl) (fun _ => rfl) (fun X hD F E hT hin => ?_)
  subst hD
  have hH : ∀ (k0 n0 : Nat), k0 ≤ 1 → n0 ≤ 6 → (True) → Z X [some (zr 1 0), some (zi x), some (zr 22 0), none] [zr 23 0] (xLs P t fp (eLs m0 0 (zq a)) zH ++ [zAl 1 1 o_]) k0 n0 12 := by
    intro k0 n0  hk0 hn0 h_2
    refine z_astore_n F dX0_fallen_12 (Nat.le_of_ble_eq_true rfl) ?_
    refine z_leq (L' := [_, _, _, _]) rfl ?_
    refine z_iconst F (nI 1) dX0_fallen_13 rfl ?_
    exact z_iret F E rfl dX0_fallen_14 (by omega) (by omega) (Or.inr ⟨_, _, ⟨rfl, h_2, rfl⟩, rfl, rfl⟩)
  refine z_aload_n F dX0_fallen_0 rfl ?_
  refine z_iconst F (nI 0) dX0_fallen_1 rfl ?_
  refine z_aload_n F dX0_fallen_2 rfl ?_
  refine z_iload_n F dX0_fallen_3 rfl ?_
  refine z_callVD F (c_pfallen_badA _ P t fp m0 x a) 1 rfl (lw_V q1176 q1177 q1178 q109 q1179) (by decide +kernel) ⟨Nat.le_of_ble_eq_true rfl, Nat.le_of_ble_eq_true rfl⟩ ⟨by omega, by omega⟩ [0, 1, 2, 3, 4, 5, 6, 7, 8, 9, 10, 11, 12, 13, 14, 15, 16, 17, 18, 19, 20, 21] 23 ⟨rfl, rfl, rfl, ⟨Or.inr (congrArg some (zrnP rfl).symm), Or.inr rfl, Or.inl rfl, Or.inl rfl, Or.inl rfl, Or.inl rfl, Or.inl rfl, Or.inl rfl, Or.inl rfl, Or.inr rfl, Or.inl rfl, Or.inl rfl, Or.inl rfl, Or.inl rfl, Or.inl rfl, Or.inl rfl, Or.inl rfl, Or.inl rfl, Or.inl rfl, Or.inl rfl, Or.inl rfl, Or.inl rfl, trivial⟩⟩ (fun _ => rfl) (Nat.le_of_ble_eq_true rfl) ⟨⟨Or.inl rfl, Or.inl rfl, Or.inr trivial, Or.inr trivial, Or.inr trivial, Or.inr trivial, Or.inr trivial, Or.inr trivial, Or.inr trivial, Or.inl rfl, Or.inr trivial, Or.inr trivial, Or.inr trivial, Or.inr trivial, Or.inr trivial, Or.inr trivial, Or.inr trivial, Or.inr trivial, Or.inr trivial, Or.inr trivial, Or.inr trivial, Or.inr trivial, Or.inr trivial, trivial⟩, rfl, rfl, rfl, Nat.le_of_ble_eq_true rfl⟩ rfl zC1 rfl rfl dX0_fallen_4 (fun r_4 w_4 hp => ?_) (fun E_ w_ hx => by obtain ⟨rfl, h_2, rfl⟩ := hx; exact zx_catch F hT [] ⟨0, 9, 12, 13⟩ [] rfl (fun _ h => nomatch h) (by decide) (by decide) lw_nse (z_weq (w' := zPl (pR _) _ :: _) (congrArg (fun z => z :: _) (zrnP rfl)) (hH _ _  (by omega) (by omega) h_2)))
  exact hp.elim
theorem cw_pfallen_badB (Dg : va_G) (P : zPt) (t : Nat) (fp : Int32) (m0 x : Int32) (c : Nat) (g : Nat → Value) (hc : c ≤ 2) (hx : ∀ i, i < c → ¬ x = nI i) (o_ : Nat → Int64) : zCtrWD Dg yX0_fallen cX0_fallen 4 (some .int) [(0, 9, 12, 13)] 9 1 6 [zr 1 0, zi x, zr 22 0] ((xLs P t fp (eLs m0 c (zr 10 0)) (zAv 10 g)) ++ [zAl 1 1 o_]) (fun r_ w_ => (∃ v_ w1_, (fun r w => False) (some v_) w1_ ∧ r_ = some (zi (nI 0)) ∧ w_ = w1_ ++ [zAl 1 1 (vp_updL o_ 0 (cvV v_))]) ∨ (∃ E_ w1_, (fun E w => E = eNSE ∧ True ∧ w = xLs P t fp (eLs m0 c (zr 10 0)) (zAv 10 g)) E_ w1_ ∧ r_ = some (zi (nI 1)) ∧ w_ = w1_ ++ [zAl 1 1 o_])) zNx := by
  refine z_startWD (by decide) [some (zr 1 0), some (zi x), some (zr 22 0), none] rfl (fun _ => Nat.le_of_ble_eq_true rfl) (fun _ => rfl) (fun X hD F E hT hin => ?_)
  subst hD
  have hH : ∀ (k0 n0 : Nat), k0 ≤ 1 → n0 ≤ 6 → (True) → Z X [some (zr 1 0), some (zi x), some (zr 22 0), none] [zr 23 0] (xLs P t fp (eLs m0 c (zr 10 0)) (zAv 10 g) ++ [zAl 1 1 o_]) k0 n0 12 := by
    intro k0 n0  hk0 hn0 h_2
    refine z_astore_n F dX0_fallen_12 (Nat.le_of_ble_eq_true rfl) ?_
    refine z_leq (L' := [_, _, _, _]) rfl ?_
    refine z_iconst F (nI 1) dX0_fallen_13 rfl ?_
    exact z_iret F E rfl dX0_fallen_14 (by omega) (by omega) (Or.inr ⟨_, _, ⟨rfl, h_2, rfl⟩, rfl, rfl⟩)
  refine z_aload_n F dX0_fallen_0 rfl ?_
  refine z_iconst F (nI 0) dX0_fallen_1 rfl ?_
  refine z_aload_n F dX0_fallen_2 rfl ?_
  refine z_iload_n F dX0_fallen_3 rfl ?_
  refine z_callVD F (c_pfallen_badB _ P t fp m0 x c g hc hx) 1 rfl (lw_V q1176 q1177 q1178 q109 q1179) (by decide +kernel) ⟨Nat.le_of_ble_eq_true rfl, Nat.le_of_ble_eq_true rfl⟩ ⟨by omega, by omega⟩ [0, 1, 2, 3, 4, 5, 6, 7, 8, 9, 10, 11, 12, 13, 14, 15, 16, 17, 18, 19, 20, 21] 23 ⟨rfl, rfl, rfl, ⟨Or.inr (congrArg some (zrnP rfl).symm), Or.inr rfl, Or.inl rfl, Or.inl rfl, Or.inl rfl, Or.inl rfl, Or.inl rfl, Or.inl rfl, Or.inl rfl, Or.inr rfl, Or.inr rfl, Or.inl rfl, Or.inl rfl, Or.inl rfl, Or.inl rfl, Or.inl rfl, Or.inl rfl, Or.inl rfl, Or.inl rfl, Or.inl rfl, Or.inl rfl, Or.inl rfl, trivial⟩⟩ (fun _ => rfl) (Nat.le_of_ble_eq_true rfl) ⟨⟨Or.inl rfl, Or.inl rfl, Or.inr trivial, Or.inr trivial, Or.inr trivial, Or.inr trivial, Or.inr trivial, Or.inr trivial, Or.inr trivial, Or.inl rfl, Or.inl rfl, Or.inr trivial, Or.inr trivial, Or.inr trivial, Or.inr trivial, Or.inr trivial, Or.inr trivial, Or.inr trivial, Or.inr trivial, Or.inr trivial, Or.inr trivial, Or.inr trivial, Or.inr trivial, trivial⟩, rfl, rfl, rfl, Nat.le_of_ble_eq_true rfl⟩ rfl zC1 rfl rfl dX0_fallen_4 (fun r_4 w_4 hp => ?_) (fun E_ w_ hx => by obtain ⟨rfl, h_2, rfl⟩ := hx; exact zx_catch F hT [] ⟨0, 9, 12, 13⟩ [] rfl (fun _ h => nomatch h) (by decide) (by decide) lw_nse (z_weq (w' := zPl (pR _) _ :: _) (congrArg (fun z => z :: _) (zrnP rfl)) (hH _ _  (by omega) (by omega) h_2)))
  exact hp.elim
theorem cw_pread (Dg : va_G) (P : zPt) (t : Nat) (fp : Int32) (T : Nat → Int32) (tb : Nat → Nat) (z j : Nat) (hj : j < 8) (hzt : z ≤ t) (ht4 : t ≤ 400) (hT2 : tBy T tb z) (htb : ∀ i, tb i < 256) (o_ : Nat → Int64) : zCtrWD Dg yX0_read cX0_read 5 (some .int) [(0, 10, 13, 13), (0, 10, 17, 22)] 10 8 160 [zr 1 0, zi (nI j), zi (nI z), zr 22 0] ((xT P t fp T) ++ [zAl 1 1 o_]) (fun r_ w_ => (∃ v_ w1_, (fun r w => (∃ e b, rdS tb z = .inl (e, b) ∧ r = some (zi (nI e)) ∧ w = xT P 0 (nI b) T) ∨ (∃ n d f, rdS tb z = .inr (n, d, f) ∧ r = some (zi (nI 0)) ∧ w = xT (zput P j (some (nI n, nI d, f))) 0 (-1) T)) (some v_) w1_ ∧ r_ = some (zi (nI 0)) ∧ w_ = w1_ ++ [zAl 1 1 (vp_updL o_ 0 (cvV v_))])) zNx := by
  refine z_startWD (by decide) [some (zr 1 0), some (zi (nI j)), some (zi (nI z)), some (zr 22 0), none] rfl (fun _ => Nat.le_of_ble_eq_true rfl) (fun _ => rfl) (fun X hD F E hT hin => ?_)
  subst hD
  have K0 : ∀ e b, (rdS tb z = .inl (e, b)) → Z X [some (zr 1 0), some (zi (nI j)), some (zi (nI z)), some (zr 22 0), none] [zi (nI e), zi (nI 0), zr 22 0] (xT P 0 (nI b) T ++ [zAl 1 1 o_]) 8 160 8 := by
    intro e b h_1
    refine z_i2l F dX0_read_8 ?_
    refine z_lastN F rfl (Nat.le_of_ble_eq_true rfl) (by omega) dX0_read_9 ?_
    refine z_weq (w' := [_, _, _, _, _, _, _, _, _, _, _, _, _, _, _, _, _, _, _, _, _, _, _]) rfl ?_
    refine z_goto F (tgt := 21) dX0_read_10 (by decide) ?_
    refine z_iconst F (nI 0) dX0_read_21 rfl ?_
    exact z_iret F E rfl dX0_read_22 (by omega) (by omega) (⟨_, _, Or.inl ⟨e, b, h_1, rfl, rfl⟩, rfl, rfl⟩)
  have K1 : ∀ n d f, (rdS tb z = .inr (n, d, f)) → Z X [some (zr 1 0), some (zi (nI j)), some (zi (nI z)), some (zr 22 0), none] [zi (nI 0), zi (nI 0), zr 22 0] (xT (zput P j (some (nI n, nI d, f))) 0 (-1) T ++ [zAl 1 1 o_]) 8 160 8 := by
    intro n d f h_2
    refine z_i2l F dX0_read_8 ?_
    refine z_lastN F rfl (Nat.le_of_ble_eq_true rfl) (by omega) dX0_read_9 ?_
    refine z_weq (w' := [_, _, _, _, _, _, _, _, _, _, _, _, _, _, _, _, _, _, _, _, _, _, _]) rfl ?_
    refine z_goto F (tgt := 21) dX0_read_10 (by decide) ?_
    refine z_iconst F (nI 0) dX0_read_21 rfl ?_
    exact z_iret F E rfl dX0_read_22 (by omega) (by omega) (⟨_, _, Or.inr ⟨n, d, f, h_2, rfl, rfl⟩, rfl, rfl⟩)
  refine z_aload_n F dX0_read_0 rfl ?_
  refine z_iconst F (nI 0) dX0_read_1 rfl ?_
  refine z_aload_n F dX0_read_2 rfl ?_
  refine z_iload_n F dX0_read_3 rfl ?_
  refine z_iload_n F dX0_read_4 rfl ?_
  refine z_callVWD F (c_pread _ P t fp T tb z j hj hzt ht4 hT2 htb) 2 rfl (lw_VW q533 q534 q535 q109 q536) (by decide +kernel) ⟨Nat.le_of_ble_eq_true rfl, Nat.le_of_ble_eq_true rfl⟩ ⟨by omega, by omega⟩ [0, 1, 2, 3, 4, 5, 6, 7, 8, 9, 10, 11, 12, 13, 14, 15, 16, 17, 18, 19, 20, 21] 23 ⟨rfl, rfl, rfl, ⟨Or.inr (congrArg some (zrnP rfl).symm), Or.inr rfl, Or.inr rfl, Or.inl rfl, Or.inl rfl, Or.inl rfl, Or.inl rfl, Or.inl rfl, Or.inl rfl, Or.inl rfl, Or.inl rfl, Or.inl rfl, Or.inl rfl, Or.inl rfl, Or.inl rfl, Or.inl rfl, Or.inl rfl, Or.inl rfl, Or.inl rfl, Or.inl rfl, Or.inl rfl, Or.inl rfl, trivial⟩⟩ (fun _ => rfl) (Nat.le_of_ble_eq_true rfl) ⟨⟨Or.inl rfl, Or.inl rfl, Or.inl rfl, Or.inr trivial, Or.inr trivial, Or.inr trivial, Or.inr trivial, Or.inr trivial, Or.inr trivial, Or.inr trivial, Or.inr trivial, Or.inr trivial, Or.inr trivial, Or.inr trivial, Or.inr trivial, Or.inr trivial, Or.inr trivial, Or.inr trivial, Or.inr trivial, Or.inr trivial, Or.inr trivial, Or.inr trivial, Or.inr trivial, trivial⟩, rfl, rfl, rfl, Nat.le_of_ble_eq_true rfl⟩ rfl zC1 rfl rfl dX0_read_5 (fun r_5 w_5 hp => ?_) (fun _ _ h => h.elim)
  rcases hp with (⟨e, b, h_1, rfl, rfl⟩ | ⟨n, d, f, h_2, rfl, rfl⟩)
  · refine z_weq (w' := zPl (pR _) _ :: _) (congrArg (fun z => z :: _) (zrnP rfl)) ?_; exact K0 e b h_1
  · refine z_weq (w' := zPl (pR _) _ :: _) (congrArg (fun z => z :: _) (zrnP rfl)) ?_; exact K1 n d f h_2
theorem cw_pread_no (Dg : va_G) (P : zPt) (t : Nat) (fp : Int32) (s v : Int32) (hs : slB s = false) (o_ : Nat → Int64) : zCtrWD Dg yX0_read cX0_read 5 (some .int) [(0, 10, 13, 13), (0, 10, 17, 22)] 10 8 160 [zr 1 0, zi s, zi v, zr 22 0] ((xH P t fp) ++ [zAl 1 1 o_]) (fun r_ w_ => (∃ v_ w1_, (fun r w => False) (some v_) w1_ ∧ r_ = some (zi (nI 0)) ∧ w_ = w1_ ++ [zAl 1 1 (vp_updL o_ 0 (cvV v_))]) ∨ (∃ E_ w1_, (fun E w => E = eNSE ∧ True ∧ w = xH P t fp) E_ w1_ ∧ r_ = some (zi (nI 1)) ∧ w_ = w1_ ++ [zAl 1 1 o_])) zNx := by
  refine z_startWD (by decide) [some (zr 1 0), some (zi s), some (zi v), some (zr 22 0), none] rfl (fun _ => Nat.le_of_ble_eq_true rfl) (fun _ => rfl) (fun X hD F E hT hin => ?_)
  subst hD
  have hH : ∀ (k0 n0 : Nat), k0 ≤ 8 → n0 ≤ 160 → (True) → Z X [some (zr 1 0), some (zi s), some (zi v), some (zr 22 0), none] [zr 23 0] (xH P t fp ++ [zAl 1 1 o_]) k0 n0 13 := by
    intro k0 n0  hk0 hn0 h_2
    refine z_astore F dX0_read_13 (Nat.le_of_ble_eq_true rfl) ?_
    refine z_leq (L' := [_, _, _, _, _]) rfl ?_
    refine z_iconst F (nI 1) dX0_read_15 rfl ?_
    exact z_iret F E rfl dX0_read_16 (by omega) (by omega) (Or.inr ⟨_, _, ⟨rfl, h_2, rfl⟩, rfl, rfl⟩)
  refine z_aload_n F dX0_read_0 rfl ?_
  refine z_iconst F (nI 0) dX0_read_1 rfl ?_
  refine z_aload_n F dX0_read_2 rfl ?_
  refine z_iload_n F dX0_read_3 rfl ?_
  refine z_iload_n F dX0_read_4 rfl ?_
  refine z_callVWD F (c_pread_no _ P t fp s v hs) 2 rfl (lw_VW q533 q534 q535 q109 q536) (by decide +kernel) ⟨Nat.le_of_ble_eq_true rfl, Nat.le_of_ble_eq_true rfl⟩ ⟨by omega, by omega⟩ [0, 1, 2, 3, 4, 5, 6, 7, 8, 9, 10, 11, 12, 13, 14, 15, 16, 17, 18, 19, 20, 21] 23 ⟨rfl, rfl, rfl, ⟨Or.inr (congrArg some (zrnP rfl).symm), Or.inr rfl, Or.inl rfl, Or.inl rfl, Or.inl rfl, Or.inl rfl, Or.inl rfl, Or.inl rfl, Or.inl rfl, Or.inl rfl, Or.inl rfl, Or.inl rfl, Or.inl rfl, Or.inl rfl, Or.inl rfl, Or.inl rfl, Or.inl rfl, Or.inl rfl, Or.inl rfl, Or.inl rfl, Or.inl rfl, Or.inl rfl, trivial⟩⟩ (fun _ => rfl) (Nat.le_of_ble_eq_true rfl) ⟨⟨Or.inl rfl, Or.inl rfl, Or.inr trivial, Or.inr trivial, Or.inr trivial, Or.inr trivial, Or.inr trivial, Or.inr trivial, Or.inr trivial, Or.inr trivial, Or.inr trivial, Or.inr trivial, Or.inr trivial, Or.inr trivial, Or.inr trivial, Or.inr trivial, Or.inr trivial, Or.inr trivial, Or.inr trivial, Or.inr trivial, Or.inr trivial, Or.inr trivial, Or.inr trivial, trivial⟩, rfl, rfl, rfl, Nat.le_of_ble_eq_true rfl⟩ rfl zC1 rfl rfl dX0_read_5 (fun r_5 w_5 hp => ?_) (fun E_ w_ hx => by obtain ⟨rfl, h_2, rfl⟩ := hx; exact zx_catch F hT [] ⟨0, 10, 13, 13⟩ [⟨0, 10, 17, 22⟩] rfl (fun _ h => nomatch h) (by decide) (by decide) lw_nse (z_weq (w' := zPl (pR _) _ :: _) (congrArg (fun z => z :: _) (zrnP rfl)) (hH _ _  (by omega) (by omega) h_2)))
  exact hp.elim
theorem cw_pread_bad (Dg : va_G) (P : zPt) (t : Nat) (fp : Int32) (j : Nat) (v : Int32) (hj : j < 8) (ht4 : t ≤ 400) (hv : ∀ i, i < t + 1 → ¬ v = nI i) (o_ : Nat → Int64) : zCtrWD Dg yX0_read cX0_read 5 (some .int) [(0, 10, 13, 13), (0, 10, 17, 22)] 10 8 160 [zr 1 0, zi (nI j), zi v, zr 22 0] ((xH P t fp) ++ [zAl 1 1 o_]) (fun r_ w_ => (∃ v_ w1_, (fun r w => False) (some v_) w1_ ∧ r_ = some (zi (nI 0)) ∧ w_ = w1_ ++ [zAl 1 1 (vp_updL o_ 0 (cvV v_))]) ∨ (∃ E_ w1_, (fun E w => E = eIAE ∧ True ∧ w = xH P t fp) E_ w1_ ∧ r_ = some (zi (nI 2)) ∧ w_ = w1_ ++ [zAl 1 1 o_])) zNx := by
  refine z_startWD (by decide) [some (zr 1 0), some (zi (nI j)), some (zi v), some (zr 22 0), none] rfl (fun _ => Nat.le_of_ble_eq_true rfl) (fun _ => rfl) (fun X hD F E hT hin => ?_)
  subst hD
  have hH : ∀ (k0 n0 : Nat), k0 ≤ 8 → n0 ≤ 160 → (True) → Z X [some (zr 1 0), some (zi (nI j)), some (zi v), some (zr 22 0), none] [zr 23 0] (xH P t fp ++ [zAl 1 1 o_]) k0 n0 17 := by
    intro k0 n0  hk0 hn0 h_2
    refine z_astore F dX0_read_17 (Nat.le_of_ble_eq_true rfl) ?_
    refine z_leq (L' := [_, _, _, _, _]) rfl ?_
    refine z_iconst F (nI 2) dX0_read_19 rfl ?_
    exact z_iret F E rfl dX0_read_20 (by omega) (by omega) (Or.inr ⟨_, _, ⟨rfl, h_2, rfl⟩, rfl, rfl⟩)
  refine z_aload_n F dX0_read_0 rfl ?_
  refine z_iconst F (nI 0) dX0_read_1 rfl ?_
  refine z_aload_n F dX0_read_2 rfl ?_
  refine z_iload_n F dX0_read_3 rfl ?_
  refine z_iload_n F dX0_read_4 rfl ?_
  refine z_callVWD F (c_pread_bad _ P t fp j v hj ht4 hv) 2 rfl (lw_VW q533 q534 q535 q109 q536) (by decide +kernel) ⟨Nat.le_of_ble_eq_true rfl, Nat.le_of_ble_eq_true rfl⟩ ⟨by omega, by omega⟩ [0, 1, 2, 3, 4, 5, 6, 7, 8, 9, 10, 11, 12, 13, 14, 15, 16, 17, 18, 19, 20, 21] 23 ⟨rfl, rfl, rfl, ⟨Or.inr (congrArg some (zrnP rfl).symm), Or.inr rfl, Or.inl rfl, Or.inl rfl, Or.inl rfl, Or.inl rfl, Or.inl rfl, Or.inl rfl, Or.inl rfl, Or.inl rfl, Or.inl rfl, Or.inl rfl, Or.inl rfl, Or.inl rfl, Or.inl rfl, Or.inl rfl, Or.inl rfl, Or.inl rfl, Or.inl rfl, Or.inl rfl, Or.inl rfl, Or.inl rfl, trivial⟩⟩ (fun _ => rfl) (Nat.le_of_ble_eq_true rfl) ⟨⟨Or.inl rfl, Or.inl rfl, Or.inr trivial, Or.inr trivial, Or.inr trivial, Or.inr trivial, Or.inr trivial, Or.inr trivial, Or.inr trivial, Or.inr trivial, Or.inr trivial, Or.inr trivial, Or.inr trivial, Or.inr trivial, Or.inr trivial, Or.inr trivial, Or.inr trivial, Or.inr trivial, Or.inr trivial, Or.inr trivial, Or.inr trivial, Or.inr trivial, Or.inr trivial, trivial⟩, rfl, rfl, rfl, Nat.le_of_ble_eq_true rfl⟩ rfl zC1 rfl rfl dX0_read_5 (fun r_5 w_5 hp => ?_) (fun E_ w_ hx => by obtain ⟨rfl, h_2, rfl⟩ := hx; exact zx_catch2 F hT ⟨0, 10, 13, 13⟩ ⟨0, 10, 17, 22⟩ rfl (by decide) (by decide) (by decide) lw_nse lw_iae (z_weq (w' := zPl (pR _) _ :: _) (congrArg (fun z => z :: _) (zrnP rfl)) (hH _ _  (by omega) (by omega) h_2)))
  exact hp.elim
theorem cw_poff_no (Dg : va_G) (P : zPt) (t : Nat) (fp : Int32) (s a b : Int32) (hs : ∀ j, j < 8 → s = nI j → P j = none) (o_ : Nat → Int64) : zCtrWD Dg yX0_off cX0_off 6 (some .int) [(0, 19, 22, 13)] 9 1 6 [zr 1 0, zi s, zi a, zi b, zr 22 0] ((xH P t fp) ++ [zAl 1 1 o_]) (fun r_ w_ => (∃ v_ w1_, (fun r w => False) (some v_) w1_ ∧ r_ = some (zi (nI 0)) ∧ w_ = w1_ ++ [zAl 1 1 (vp_updL o_ 0 (cvV v_))]) ∨ (∃ E_ w1_, (fun E w => E = eNSE ∧ True ∧ w = xH P t fp) E_ w1_ ∧ r_ = some (zi (nI 1)) ∧ w_ = w1_ ++ [zAl 1 1 o_])) zNx := by
  refine z_startWD (by decide) [some (zr 1 0), some (zi s), some (zi a), some (zi b), some (zr 22 0), none] rfl (fun _ => Nat.le_of_ble_eq_true rfl) (fun _ => rfl) (fun X hD F E hT hin => ?_)
  subst hD
  have hH : ∀ (k0 n0 : Nat), k0 ≤ 1 → n0 ≤ 6 → (True) → Z X [some (zr 1 0), some (zi s), some (zi a), some (zi b), some (zr 22 0), none] [zr 23 0] (xH P t fp ++ [zAl 1 1 o_]) k0 n0 22 := by
    intro k0 n0  hk0 hn0 h_2
    refine z_astore F dX0_off_22 (Nat.le_of_ble_eq_true rfl) ?_
    refine z_leq (L' := [_, _, _, _, _, _]) rfl ?_
    refine z_iconst F (nI 1) dX0_off_24 rfl ?_
    exact z_iret F E rfl dX0_off_25 (by omega) (by omega) (Or.inr ⟨_, _, ⟨rfl, h_2, rfl⟩, rfl, rfl⟩)
  refine z_aload F dX0_off_0 rfl ?_
  refine z_iconst F (nI 0) dX0_off_2 rfl ?_
  refine z_aload_n F dX0_off_3 rfl ?_
  refine z_iload_n F dX0_off_4 rfl ?_
  refine z_iload_n F dX0_off_5 rfl ?_
  refine z_iload_n F dX0_off_6 rfl ?_
  refine z_callV F (c_poff_no P t fp s a b hs) 3 rfl (lw_V q520 q521 q522 q109 q523) (by decide +kernel) ⟨Nat.le_of_ble_eq_true rfl, Nat.le_of_ble_eq_true rfl⟩ ⟨by omega, by omega⟩ [0, 1, 2, 3, 4, 5, 6, 7, 8, 9, 10, 11, 12, 13, 14, 15, 16, 17, 18, 19, 20, 21] 23 ⟨rfl, rfl, rfl, ⟨Or.inr (congrArg some (zrnP rfl).symm), Or.inr rfl, Or.inl rfl, Or.inl rfl, Or.inl rfl, Or.inl rfl, Or.inl rfl, Or.inl rfl, Or.inl rfl, Or.inl rfl, Or.inl rfl, Or.inl rfl, Or.inl rfl, Or.inl rfl, Or.inl rfl, Or.inl rfl, Or.inl rfl, Or.inl rfl, Or.inl rfl, Or.inl rfl, Or.inl rfl, Or.inl rfl, trivial⟩⟩ (fun _ => rfl) (Nat.le_of_ble_eq_true rfl) ⟨⟨Or.inl rfl, Or.inl rfl, Or.inr trivial, Or.inr trivial, Or.inr trivial, Or.inr trivial, Or.inr trivial, Or.inr trivial, Or.inr trivial, Or.inr trivial, Or.inr trivial, Or.inr trivial, Or.inr trivial, Or.inr trivial, Or.inr trivial, Or.inr trivial, Or.inr trivial, Or.inr trivial, Or.inr trivial, Or.inr trivial, Or.inr trivial, Or.inr trivial, Or.inr trivial, trivial⟩, rfl, rfl, rfl, Nat.le_of_ble_eq_true rfl⟩ rfl zC1 rfl rfl dX0_off_7 (fun r_7 w_7 hp => ?_) (fun E_ w_ hx => by obtain ⟨rfl, h_2, rfl⟩ := hx; exact zx_catch F hT [] ⟨0, 19, 22, 13⟩ [] rfl (fun _ h => nomatch h) (by decide) (by decide) lw_nse (z_weq (w' := zPl (pR _) _ :: _) (congrArg (fun z => z :: _) (zrnP rfl)) (hH _ _  (by omega) (by omega) h_2)))
  exact hp.elim
theorem cw_pcopy_no (Dg : va_G) (P : zPt) (t : Nat) (fp : Int32) (s a : Int32) (hs : ∀ j, j < 8 → s = nI j → P j = none) (o_ : Nat → Int64) : zCtrWD Dg yX0_copy cX0_copy 5 (some .int) [(0, 17, 20, 13)] 9 1 6 [zr 1 0, zi s, zi a, zr 22 0] ((xH P t fp) ++ [zAl 1 1 o_]) (fun r_ w_ => (∃ v_ w1_, (fun r w => False) (some v_) w1_ ∧ r_ = some (zi (nI 0)) ∧ w_ = w1_ ++ [zAl 1 1 (vp_updL o_ 0 (cvV v_))]) ∨ (∃ E_ w1_, (fun E w => E = eNSE ∧ True ∧ w = xH P t fp) E_ w1_ ∧ r_ = some (zi (nI 1)) ∧ w_ = w1_ ++ [zAl 1 1 o_])) zNx := by
  refine z_startWD (by decide) [some (zr 1 0), some (zi s), some (zi a), some (zr 22 0), none] rfl (fun _ => Nat.le_of_ble_eq_true rfl) (fun _ => rfl) (fun X hD F E hT hin => ?_)
  subst hD
  have hH : ∀ (k0 n0 : Nat), k0 ≤ 1 → n0 ≤ 6 → (True) → Z X [some (zr 1 0), some (zi s), some (zi a), some (zr 22 0), none] [zr 23 0] (xH P t fp ++ [zAl 1 1 o_]) k0 n0 20 := by
    intro k0 n0  hk0 hn0 h_2
    refine z_astore F dX0_copy_20 (Nat.le_of_ble_eq_true rfl) ?_
    refine z_leq (L' := [_, _, _, _, _]) rfl ?_
    refine z_iconst F (nI 1) dX0_copy_22 rfl ?_
    exact z_iret F E rfl dX0_copy_23 (by omega) (by omega) (Or.inr ⟨_, _, ⟨rfl, h_2, rfl⟩, rfl, rfl⟩)
  refine z_aload_n F dX0_copy_0 rfl ?_
  refine z_iconst F (nI 0) dX0_copy_1 rfl ?_
  refine z_aload_n F dX0_copy_2 rfl ?_
  refine z_iload_n F dX0_copy_3 rfl ?_
  refine z_iload_n F dX0_copy_4 rfl ?_
  refine z_callV F (c_pcopy_no P t fp s a hs) 2 rfl (lw_V q748 q749 q750 q109 q751) (by decide +kernel) ⟨Nat.le_of_ble_eq_true rfl, Nat.le_of_ble_eq_true rfl⟩ ⟨by omega, by omega⟩ [0, 1, 2, 3, 4, 5, 6, 7, 8, 9, 10, 11, 12, 13, 14, 15, 16, 17, 18, 19, 20, 21] 23 ⟨rfl, rfl, rfl, ⟨Or.inr (congrArg some (zrnP rfl).symm), Or.inr rfl, Or.inl rfl, Or.inl rfl, Or.inl rfl, Or.inl rfl, Or.inl rfl, Or.inl rfl, Or.inl rfl, Or.inl rfl, Or.inl rfl, Or.inl rfl, Or.inl rfl, Or.inl rfl, Or.inl rfl, Or.inl rfl, Or.inl rfl, Or.inl rfl, Or.inl rfl, Or.inl rfl, Or.inl rfl, Or.inl rfl, trivial⟩⟩ (fun _ => rfl) (Nat.le_of_ble_eq_true rfl) ⟨⟨Or.inl rfl, Or.inl rfl, Or.inr trivial, Or.inr trivial, Or.inr trivial, Or.inr trivial, Or.inr trivial, Or.inr trivial, Or.inr trivial, Or.inr trivial, Or.inr trivial, Or.inr trivial, Or.inr trivial, Or.inr trivial, Or.inr trivial, Or.inr trivial, Or.inr trivial, Or.inr trivial, Or.inr trivial, Or.inr trivial, Or.inr trivial, Or.inr trivial, Or.inr trivial, trivial⟩, rfl, rfl, rfl, Nat.le_of_ble_eq_true rfl⟩ rfl zC1 rfl rfl dX0_copy_5 (fun r_5 w_5 hp => ?_) (fun E_ w_ hx => by obtain ⟨rfl, h_2, rfl⟩ := hx; exact zx_catch F hT [] ⟨0, 17, 20, 13⟩ [] rfl (fun _ h => nomatch h) (by decide) (by decide) lw_nse (z_weq (w' := zPl (pR _) _ :: _) (congrArg (fun z => z :: _) (zrnP rfl)) (hH _ _  (by omega) (by omega) h_2)))
  exact hp.elim
theorem cw_pabout_no (Dg : va_G) (P : zPt) (t : Nat) (fp : Int32) (s a : Int32) (hs : ∀ j, j < 8 → s = nI j → P j = none) (o_ : Nat → Int64) : zCtrWD Dg yX0_about cX0_about 5 (some .int) [(0, 10, 13, 13)] 9 1 6 [zr 1 0, zi s, zi a, zr 22 0] ((xH P t fp) ++ [zAl 1 1 o_]) (fun r_ w_ => (∃ v_ w1_, (fun r w => False) (some v_) w1_ ∧ r_ = some (zi (nI 0)) ∧ w_ = w1_ ++ [zAl 1 1 (vp_updL o_ 0 (cvV v_))]) ∨ (∃ E_ w1_, (fun E w => E = eNSE ∧ True ∧ w = xH P t fp) E_ w1_ ∧ r_ = some (zi (nI 1)) ∧ w_ = w1_ ++ [zAl 1 1 o_])) zNx := by
  refine z_startWD (by decide) [some (zr 1 0), some (zi s), some (zi a), some (zr 22 0), none] rfl (fun _ => Nat.le_of_ble_eq_true rfl) (fun _ => rfl) (fun X hD F E hT hin => ?_)
  subst hD
  have hH : ∀ (k0 n0 : Nat), k0 ≤ 1 → n0 ≤ 6 → (True) → Z X [some (zr 1 0), some (zi s), some (zi a), some (zr 22 0), none] [zr 23 0] (xH P t fp ++ [zAl 1 1 o_]) k0 n0 13 := by
    intro k0 n0  hk0 hn0 h_2
    refine z_astore F dX0_about_13 (Nat.le_of_ble_eq_true rfl) ?_
    refine z_leq (L' := [_, _, _, _, _]) rfl ?_
    refine z_iconst F (nI 1) dX0_about_15 rfl ?_
    exact z_iret F E rfl dX0_about_16 (by omega) (by omega) (Or.inr ⟨_, _, ⟨rfl, h_2, rfl⟩, rfl, rfl⟩)
  refine z_aload_n F dX0_about_0 rfl ?_
  refine z_iconst F (nI 0) dX0_about_1 rfl ?_
  refine z_aload_n F dX0_about_2 rfl ?_
  refine z_iload_n F dX0_about_3 rfl ?_
  refine z_iload_n F dX0_about_4 rfl ?_
  refine z_callV F (c_pabout_no P t fp s a hs) 2 rfl (lw_V q761 q762 q763 q109 q764) (by decide +kernel) ⟨Nat.le_of_ble_eq_true rfl, Nat.le_of_ble_eq_true rfl⟩ ⟨by omega, by omega⟩ [0, 1, 2, 3, 4, 5, 6, 7, 8, 9, 10, 11, 12, 13, 14, 15, 16, 17, 18, 19, 20, 21] 23 ⟨rfl, rfl, rfl, ⟨Or.inr (congrArg some (zrnP rfl).symm), Or.inr rfl, Or.inl rfl, Or.inl rfl, Or.inl rfl, Or.inl rfl, Or.inl rfl, Or.inl rfl, Or.inl rfl, Or.inl rfl, Or.inl rfl, Or.inl rfl, Or.inl rfl, Or.inl rfl, Or.inl rfl, Or.inl rfl, Or.inl rfl, Or.inl rfl, Or.inl rfl, Or.inl rfl, Or.inl rfl, Or.inl rfl, trivial⟩⟩ (fun _ => rfl) (Nat.le_of_ble_eq_true rfl) ⟨⟨Or.inl rfl, Or.inl rfl, Or.inr trivial, Or.inr trivial, Or.inr trivial, Or.inr trivial, Or.inr trivial, Or.inr trivial, Or.inr trivial, Or.inr trivial, Or.inr trivial, Or.inr trivial, Or.inr trivial, Or.inr trivial, Or.inr trivial, Or.inr trivial, Or.inr trivial, Or.inr trivial, Or.inr trivial, Or.inr trivial, Or.inr trivial, Or.inr trivial, Or.inr trivial, trivial⟩, rfl, rfl, rfl, Nat.le_of_ble_eq_true rfl⟩ rfl zC1 rfl rfl dX0_about_5 (fun r_5 w_5 hp => ?_) (fun E_ w_ hx => by obtain ⟨rfl, h_2, rfl⟩ := hx; exact zx_catch F hT [] ⟨0, 10, 13, 13⟩ [] rfl (fun _ h => nomatch h) (by decide) (by decide) lw_nse (z_weq (w' := zPl (pR _) _ :: _) (congrArg (fun z => z :: _) (zrnP rfl)) (hH _ _  (by omega) (by omega) h_2)))
  exact hp.elim
theorem cw_plineAt_no (Dg : va_G) (P : zPt) (t : Nat) (fp : Int32) (s a : Int32) (hs : ∀ j, j < 8 → s = nI j → P j = none) (o_ : Nat → Int64) : zCtrWD Dg yX0_lineAt cX0_lineAt 5 (some .int) [(0, 10, 13, 13)] 9 1 6 [zr 1 0, zi s, zi a, zr 22 0] ((xH P t fp) ++ [zAl 1 1 o_]) (fun r_ w_ => (∃ v_ w1_, (fun r w => False) (some v_) w1_ ∧ r_ = some (zi (nI 0)) ∧ w_ = w1_ ++ [zAl 1 1 (vp_updL o_ 0 (cvV v_))]) ∨ (∃ E_ w1_, (fun E w => E = eNSE ∧ True ∧ w = xH P t fp) E_ w1_ ∧ r_ = some (zi (nI 1)) ∧ w_ = w1_ ++ [zAl 1 1 o_])) zNx := by
  refine z_startWD (by decide) [some (zr 1 0), some (zi s), some (zi a), some (zr 22 0), none] rfl (fun _ => Nat.le_of_ble_eq_true rfl) (fun _ => rfl) (fun X hD F E hT hin => ?_)
  subst hD
  have hH : ∀ (k0 n0 : Nat), k0 ≤ 1 → n0 ≤ 6 → (True) → Z X [some (zr 1 0), some (zi s), some (zi a), some (zr 22 0), none] [zr 23 0] (xH P t fp ++ [zAl 1 1 o_]) k0 n0 13 := by
    intro k0 n0  hk0 hn0 h_2
    refine z_astore F dX0_lineAt_13 (Nat.le_of_ble_eq_true rfl) ?_
    refine z_leq (L' := [_, _, _, _, _]) rfl ?_
    refine z_iconst F (nI 1) dX0_lineAt_15 rfl ?_
    exact z_iret F E rfl dX0_lineAt_16 (by omega) (by omega) (Or.inr ⟨_, _, ⟨rfl, h_2, rfl⟩, rfl, rfl⟩)
  refine z_aload_n F dX0_lineAt_0 rfl ?_
  refine z_iconst F (nI 0) dX0_lineAt_1 rfl ?_
  refine z_aload_n F dX0_lineAt_2 rfl ?_
  refine z_iload_n F dX0_lineAt_3 rfl ?_
  refine z_iload_n F dX0_lineAt_4 rfl ?_
  refine z_callV F (c_plineAt_no P t fp s a hs) 2 rfl (lw_V q775 q776 q777 q109 q778) (by decide +kernel) ⟨Nat.le_of_ble_eq_true rfl, Nat.le_of_ble_eq_true rfl⟩ ⟨by omega, by omega⟩ [0, 1, 2, 3, 4, 5, 6, 7, 8, 9, 10, 11, 12, 13, 14, 15, 16, 17, 18, 19, 20, 21] 23 ⟨rfl, rfl, rfl, ⟨Or.inr (congrArg some (zrnP rfl).symm), Or.inr rfl, Or.inl rfl, Or.inl rfl, Or.inl rfl, Or.inl rfl, Or.inl rfl, Or.inl rfl, Or.inl rfl, Or.inl rfl, Or.inl rfl, Or.inl rfl, Or.inl rfl, Or.inl rfl, Or.inl rfl, Or.inl rfl, Or.inl rfl, Or.inl rfl, Or.inl rfl, Or.inl rfl, Or.inl rfl, Or.inl rfl, trivial⟩⟩ (fun _ => rfl) (Nat.le_of_ble_eq_true rfl) ⟨⟨Or.inl rfl, Or.inl rfl, Or.inr trivial, Or.inr trivial, Or.inr trivial, Or.inr trivial, Or.inr trivial, Or.inr trivial, Or.inr trivial, Or.inr trivial, Or.inr trivial, Or.inr trivial, Or.inr trivial, Or.inr trivial, Or.inr trivial, Or.inr trivial, Or.inr trivial, Or.inr trivial, Or.inr trivial, Or.inr trivial, Or.inr trivial, Or.inr trivial, Or.inr trivial, trivial⟩, rfl, rfl, rfl, Nat.le_of_ble_eq_true rfl⟩ rfl zC1 rfl rfl dX0_lineAt_5 (fun r_5 w_5 hp => ?_) (fun E_ w_ hx => by obtain ⟨rfl, h_2, rfl⟩ := hx; exact zx_catch F hT [] ⟨0, 10, 13, 13⟩ [] rfl (fun _ h => nomatch h) (by decide) (by decide) lw_nse (z_weq (w' := zPl (pR _) _ :: _) (congrArg (fun z => z :: _) (zrnP rfl)) (hH _ _  (by omega) (by omega) h_2)))
  exact hp.elim
theorem cw_pdistance_no (Dg : va_G) (P : zPt) (t : Nat) (fp : Int32) (s a b : Int32) (hs : ∀ j, j < 8 → s = nI j → P j = none) (o_ : Nat → Int64) : zCtrWD Dg yX0_distance cX0_distance 6 (some .int) [(0, 12, 15, 13)] 9 1 6 [zr 1 0, zi s, zi a, zi b, zr 22 0] ((xH P t fp) ++ [zAl 1 1 o_]) (fun r_ w_ => (∃ v_ w1_, (fun r w => False) (some v_) w1_ ∧ r_ = some (zi (nI 0)) ∧ w_ = w1_ ++ [zAl 1 1 (vp_updL o_ 0 (cvV v_))]) ∨ (∃ E_ w1_, (fun E w => E = eNSE ∧ True ∧ w = xH P t fp) E_ w1_ ∧ r_ = some (zi (nI 1)) ∧ w_ = w1_ ++ [zAl 1 1 o_])) zNx := by
  refine z_startWD (by decide) [some (zr 1 0), some (zi s), some (zi a), some (zi b), some (zr 22 0), none] rfl (fun _ => Nat.le_of_ble_eq_true rfl) (fun _ => rfl) (fun X hD F E hT hin => ?_)
  subst hD
  have hH : ∀ (k0 n0 : Nat), k0 ≤ 1 → n0 ≤ 6 → (True) → Z X [some (zr 1 0), some (zi s), some (zi a), some (zi b), some (zr 22 0), none] [zr 23 0] (xH P t fp ++ [zAl 1 1 o_]) k0 n0 15 := by
    intro k0 n0  hk0 hn0 h_2
    refine z_astore F dX0_distance_15 (Nat.le_of_ble_eq_true rfl) ?_
    refine z_leq (L' := [_, _, _, _, _, _]) rfl ?_
    refine z_iconst F (nI 1) dX0_distance_17 rfl ?_
    exact z_iret F E rfl dX0_distance_18 (by omega) (by omega) (Or.inr ⟨_, _, ⟨rfl, h_2, rfl⟩, rfl, rfl⟩)
  refine z_aload F dX0_distance_0 rfl ?_
  refine z_iconst F (nI 0) dX0_distance_2 rfl ?_
  refine z_aload_n F dX0_distance_3 rfl ?_
  refine z_iload_n F dX0_distance_4 rfl ?_
  refine z_iload_n F dX0_distance_5 rfl ?_
  refine z_iload_n F dX0_distance_6 rfl ?_
  refine z_callV F (c_pdistance_no P t fp s a b hs) 3 rfl (lw_V q791 q792 q793 q109 q794) (by decide +kernel) ⟨Nat.le_of_ble_eq_true rfl, Nat.le_of_ble_eq_true rfl⟩ ⟨by omega, by omega⟩ [0, 1, 2, 3, 4, 5, 6, 7, 8, 9, 10, 11, 12, 13, 14, 15, 16, 17, 18, 19, 20, 21] 23 ⟨rfl, rfl, rfl, ⟨Or.inr (congrArg some (zrnP rfl).symm), Or.inr rfl, Or.inl rfl, Or.inl rfl, Or.inl rfl, Or.inl rfl, Or.inl rfl, Or.inl rfl, Or.inl rfl, Or.inl rfl, Or.inl rfl, Or.inl rfl, Or.inl rfl, Or.inl rfl, Or.inl rfl, Or.inl rfl, Or.inl rfl, Or.inl rfl, Or.inl rfl, Or.inl rfl, Or.inl rfl, Or.inl rfl, trivial⟩⟩ (fun _ => rfl) (Nat.le_of_ble_eq_true rfl) ⟨⟨Or.inl rfl, Or.inl rfl, Or.inr trivial, Or.inr trivial, Or.inr trivial, Or.inr trivial, Or.inr trivial, Or.inr trivial, Or.inr trivial, Or.inr trivial, Or.inr trivial, Or.inr trivial, Or.inr trivial, Or.inr trivial, Or.inr trivial, Or.inr trivial, Or.inr trivial, Or.inr trivial, Or.inr trivial, Or.inr trivial, Or.inr trivial, Or.inr trivial, Or.inr trivial, trivial⟩, rfl, rfl, rfl, Nat.le_of_ble_eq_true rfl⟩ rfl zC1 rfl rfl dX0_distance_7 (fun r_7 w_7 hp => ?_) (fun E_ w_ hx => by obtain ⟨rfl, h_2, rfl⟩ := hx; exact zx_catch F hT [] ⟨0, 12, 15, 13⟩ [] rfl (fun _ h => nomatch h) (by decide) (by decide) lw_nse (z_weq (w' := zPl (pR _) _ :: _) (congrArg (fun z => z :: _) (zrnP rfl)) (hH _ _  (by omega) (by omega) h_2)))
  exact hp.elim
theorem cw_pfar_no (Dg : va_G) (P : zPt) (t : Nat) (fp : Int32) (s a : Int32) (hs : ∀ j, j < 8 → s = nI j → P j = none) (o_ : Nat → Int64) : zCtrWD Dg yX0_far cX0_far 5 (some .int) [(0, 10, 13, 13)] 9 1 6 [zr 1 0, zi s, zi a, zr 22 0] ((xH P t fp) ++ [zAl 1 1 o_]) (fun r_ w_ => (∃ v_ w1_, (fun r w => False) (some v_) w1_ ∧ r_ = some (zi (nI 0)) ∧ w_ = w1_ ++ [zAl 1 1 (vp_updL o_ 0 (cvV v_))]) ∨ (∃ E_ w1_, (fun E w => E = eNSE ∧ True ∧ w = xH P t fp) E_ w1_ ∧ r_ = some (zi (nI 1)) ∧ w_ = w1_ ++ [zAl 1 1 o_])) zNx := by
  refine z_startWD (by decide) [some (zr 1 0), some (zi s), some (zi a), some (zr 22 0), none] rfl (fun _ => Nat.le_of_ble_eq_true rfl) (fun _ => rfl) (fun X hD F E hT hin => ?_)
  subst hD
  have hH : ∀ (k0 n0 : Nat), k0 ≤ 1 → n0 ≤ 6 → (True) → Z X [some (zr 1 0), some (zi s), some (zi a), some (zr 22 0), none] [zr 23 0] (xH P t fp ++ [zAl 1 1 o_]) k0 n0 13 := by
    intro k0 n0  hk0 hn0 h_2
    refine z_astore F dX0_far_13 (Nat.le_of_ble_eq_true rfl) ?_
    refine z_leq (L' := [_, _, _, _, _]) rfl ?_
    refine z_iconst F (nI 1) dX0_far_15 rfl ?_
    exact z_iret F E rfl dX0_far_16 (by omega) (by omega) (Or.inr ⟨_, _, ⟨rfl, h_2, rfl⟩, rfl, rfl⟩)
  refine z_aload_n F dX0_far_0 rfl ?_
  refine z_iconst F (nI 0) dX0_far_1 rfl ?_
  refine z_aload_n F dX0_far_2 rfl ?_
  refine z_iload_n F dX0_far_3 rfl ?_
  refine z_iload_n F dX0_far_4 rfl ?_
  refine z_callV F (c_pfar_no P t fp s a hs) 2 rfl (lw_V q814 q815 q816 q109 q817) (by decide +kernel) ⟨Nat.le_of_ble_eq_true rfl, Nat.le_of_ble_eq_true rfl⟩ ⟨by omega, by omega⟩ [0, 1, 2, 3, 4, 5, 6, 7, 8, 9, 10, 11, 12, 13, 14, 15, 16, 17, 18, 19, 20, 21] 23 ⟨rfl, rfl, rfl, ⟨Or.inr (congrArg some (zrnP rfl).symm), Or.inr rfl, Or.inl rfl, Or.inl rfl, Or.inl rfl, Or.inl rfl, Or.inl rfl, Or.inl rfl, Or.inl rfl, Or.inl rfl, Or.inl rfl, Or.inl rfl, Or.inl rfl, Or.inl rfl, Or.inl rfl, Or.inl rfl, Or.inl rfl, Or.inl rfl, Or.inl rfl, Or.inl rfl, Or.inl rfl, Or.inl rfl, trivial⟩⟩ (fun _ => rfl) (Nat.le_of_ble_eq_true rfl) ⟨⟨Or.inl rfl, Or.inl rfl, Or.inr trivial, Or.inr trivial, Or.inr trivial, Or.inr trivial, Or.inr trivial, Or.inr trivial, Or.inr trivial, Or.inr trivial, Or.inr trivial, Or.inr trivial, Or.inr trivial, Or.inr trivial, Or.inr trivial, Or.inr trivial, Or.inr trivial, Or.inr trivial, Or.inr trivial, Or.inr trivial, Or.inr trivial, Or.inr trivial, Or.inr trivial, trivial⟩, rfl, rfl, rfl, Nat.le_of_ble_eq_true rfl⟩ rfl zC1 rfl rfl dX0_far_5 (fun r_5 w_5 hp => ?_) (fun E_ w_ hx => by obtain ⟨rfl, h_2, rfl⟩ := hx; exact zx_catch F hT [] ⟨0, 10, 13, 13⟩ [] rfl (fun _ h => nomatch h) (by decide) (by decide) lw_nse (z_weq (w' := zPl (pR _) _ :: _) (congrArg (fun z => z :: _) (zrnP rfl)) (hH _ _  (by omega) (by omega) h_2)))
  exact hp.elim
theorem cw_papart_no (Dg : va_G) (P : zPt) (t : Nat) (fp : Int32) (s a b : Int32) (hs : ∀ j, j < 8 → s = nI j → P j = none) (o_ : Nat → Int64) : zCtrWD Dg yX0_apart cX0_apart 6 (some .int) [(0, 12, 15, 13)] 9 1 6 [zr 1 0, zi s, zi a, zi b, zr 22 0] ((xH P t fp) ++ [zAl 1 1 o_]) (fun r_ w_ => (∃ v_ w1_, (fun r w => False) (some v_) w1_ ∧ r_ = some (zi (nI 0)) ∧ w_ = w1_ ++ [zAl 1 1 (vp_updL o_ 0 (cvV v_))]) ∨ (∃ E_ w1_, (fun E w => E = eNSE ∧ True ∧ w = xH P t fp) E_ w1_ ∧ r_ = some (zi (nI 1)) ∧ w_ = w1_ ++ [zAl 1 1 o_])) zNx := by
  refine z_startWD (by decide) [some (zr 1 0), some (zi s), some (zi a), some (zi b), some (zr 22 0), none] rfl (fun _ => Nat.le_of_ble_eq_true rfl) (fun _ => rfl) (fun X hD F E hT hin => ?_)
  subst hD
  have hH : ∀ (k0 n0 : Nat), k0 ≤ 1 → n0 ≤ 6 → (True) → Z X [some (zr 1 0), some (zi s), some (zi a), some (zi b), some (zr 22 0), none] [zr 23 0] (xH P t fp ++ [zAl 1 1 o_]) k0 n0 15 := by
    intro k0 n0  hk0 hn0 h_2
    refine z_astore F dX0_apart_15 (Nat.le_of_ble_eq_true rfl) ?_
    refine z_leq (L' := [_, _, _, _, _, _]) rfl ?_
    refine z_iconst F (nI 1) dX0_apart_17 rfl ?_
    exact z_iret F E rfl dX0_apart_18 (by omega) (by omega) (Or.inr ⟨_, _, ⟨rfl, h_2, rfl⟩, rfl, rfl⟩)
  refine z_aload F dX0_apart_0 rfl ?_
  refine z_iconst F (nI 0) dX0_apart_2 rfl ?_
  refine z_aload_n F dX0_apart_3 rfl ?_
  refine z_iload_n F dX0_apart_4 rfl ?_
  refine z_iload_n F dX0_apart_5 rfl ?_
  refine z_iload_n F dX0_apart_6 rfl ?_
  refine z_callV F (c_papart_no P t fp s a b hs) 3 rfl (lw_V q872 q873 q874 q109 q875) (by decide +kernel) ⟨Nat.le_of_ble_eq_true rfl, Nat.le_of_ble_eq_true rfl⟩ ⟨by omega, by omega⟩ [0, 1, 2, 3, 4, 5, 6, 7, 8, 9, 10, 11, 12, 13, 14, 15, 16, 17, 18, 19, 20, 21] 23 ⟨rfl, rfl, rfl, ⟨Or.inr (congrArg some (zrnP rfl).symm), Or.inr rfl, Or.inl rfl, Or.inl rfl, Or.inl rfl, Or.inl rfl, Or.inl rfl, Or.inl rfl, Or.inl rfl, Or.inl rfl, Or.inl rfl, Or.inl rfl, Or.inl rfl, Or.inl rfl, Or.inl rfl, Or.inl rfl, Or.inl rfl, Or.inl rfl, Or.inl rfl, Or.inl rfl, Or.inl rfl, Or.inl rfl, trivial⟩⟩ (fun _ => rfl) (Nat.le_of_ble_eq_true rfl) ⟨⟨Or.inl rfl, Or.inl rfl, Or.inr trivial, Or.inr trivial, Or.inr trivial, Or.inr trivial, Or.inr trivial, Or.inr trivial, Or.inr trivial, Or.inr trivial, Or.inr trivial, Or.inr trivial, Or.inr trivial, Or.inr trivial, Or.inr trivial, Or.inr trivial, Or.inr trivial, Or.inr trivial, Or.inr trivial, Or.inr trivial, Or.inr trivial, Or.inr trivial, Or.inr trivial, trivial⟩, rfl, rfl, rfl, Nat.le_of_ble_eq_true rfl⟩ rfl zC1 rfl rfl dX0_apart_7 (fun r_7 w_7 hp => ?_) (fun E_ w_ hx => by obtain ⟨rfl, h_2, rfl⟩ := hx; exact zx_catch F hT [] ⟨0, 12, 15, 13⟩ [] rfl (fun _ h => nomatch h) (by decide) (by decide) lw_nse (z_weq (w' := zPl (pR _) _ :: _) (congrArg (fun z => z :: _) (zrnP rfl)) (hH _ _  (by omega) (by omega) h_2)))
  exact hp.elim
theorem cw_ppoly_no (Dg : va_G) (P : zPt) (t : Nat) (fp : Int32) (s a : Int32) (hs : ∀ j, j < 8 → s = nI j → P j = none) (o_ : Nat → Int64) : zCtrWD Dg yX0_poly cX0_poly 5 (some .int) [(0, 9, 12, 13), (0, 9, 16, 22)] 9 1 6 [zr 1 0, zi s, zi a, zr 22 0] ((xH P t fp) ++ [zAl 1 1 o_]) (fun r_ w_ => (∃ v_ w1_, (fun r w => False) (some v_) w1_ ∧ r_ = some (zi (nI 0)) ∧ w_ = w1_ ++ [zAl 1 1 (vp_updL o_ 0 (cvV v_))]) ∨ (∃ E_ w1_, (fun E w => E = eNSE ∧ True ∧ w = xH P t fp) E_ w1_ ∧ r_ = some (zi (nI 1)) ∧ w_ = w1_ ++ [zAl 1 1 o_])) zNx := by
  refine z_startWD (by decide) [some (zr 1 0), some (zi s), some (zi a), some (zr 22 0), none] rfl (fun _ => Nat.le_of_ble_eq_true rfl) (fun _ => rfl) (fun X hD F E hT hin => ?_)
  subst hD
  have hH : ∀ (k0 n0 : Nat), k0 ≤ 1 → n0 ≤ 6 → (True) → Z X [some (zr 1 0), some (zi s), some (zi a), some (zr 22 0), none] [zr 23 0] (xH P t fp ++ [zAl 1 1 o_]) k0 n0 12 := by
    intro k0 n0  hk0 hn0 h_2
    refine z_astore F dX0_poly_12 (Nat.le_of_ble_eq_true rfl) ?_
    refine z_leq (L' := [_, _, _, _, _]) rfl ?_
    refine z_iconst F (nI 1) dX0_poly_14 rfl ?_
    exact z_iret F E rfl dX0_poly_15 (by omega) (by omega) (Or.inr ⟨_, _, ⟨rfl, h_2, rfl⟩, rfl, rfl⟩)
  refine z_aload_n F dX0_poly_0 rfl ?_
  refine z_iconst F (nI 0) dX0_poly_1 rfl ?_
  refine z_aload_n F dX0_poly_2 rfl ?_
  refine z_iload_n F dX0_poly_3 rfl ?_
  refine z_iload_n F dX0_poly_4 rfl ?_
  refine z_callV F (c_ppoly_no P t fp s a hs) 2 rfl (lw_V q880 q881 q882 q109 q883) (by decide +kernel) ⟨Nat.le_of_ble_eq_true rfl, Nat.le_of_ble_eq_true rfl⟩ ⟨by omega, by omega⟩ [0, 1, 2, 3, 4, 5, 6, 7, 8, 9, 10, 11, 12, 13, 14, 15, 16, 17, 18, 19, 20, 21] 23 ⟨rfl, rfl, rfl, ⟨Or.inr (congrArg some (zrnP rfl).symm), Or.inr rfl, Or.inl rfl, Or.inl rfl, Or.inl rfl, Or.inl rfl, Or.inl rfl, Or.inl rfl, Or.inl rfl, Or.inl rfl, Or.inl rfl, Or.inl rfl, Or.inl rfl, Or.inl rfl, Or.inl rfl, Or.inl rfl, Or.inl rfl, Or.inl rfl, Or.inl rfl, Or.inl rfl, Or.inl rfl, Or.inl rfl, trivial⟩⟩ (fun _ => rfl) (Nat.le_of_ble_eq_true rfl) ⟨⟨Or.inl rfl, Or.inl rfl, Or.inr trivial, Or.inr trivial, Or.inr trivial, Or.inr trivial, Or.inr trivial, Or.inr trivial, Or.inr trivial, Or.inr trivial, Or.inr trivial, Or.inr trivial, Or.inr trivial, Or.inr trivial, Or.inr trivial, Or.inr trivial, Or.inr trivial, Or.inr trivial, Or.inr trivial, Or.inr trivial, Or.inr trivial, Or.inr trivial, Or.inr trivial, trivial⟩, rfl, rfl, rfl, Nat.le_of_ble_eq_true rfl⟩ rfl zC1 rfl rfl dX0_poly_5 (fun r_5 w_5 hp => ?_) (fun E_ w_ hx => by obtain ⟨rfl, h_2, rfl⟩ := hx; exact zx_catch F hT [] ⟨0, 9, 12, 13⟩ [⟨0, 9, 16, 22⟩] rfl (fun _ h => nomatch h) (by decide) (by decide) lw_nse (z_weq (w' := zPl (pR _) _ :: _) (congrArg (fun z => z :: _) (zrnP rfl)) (hH _ _  (by omega) (by omega) h_2)))
  exact hp.elim
theorem cw_pabove_no (Dg : va_G) (P : zPt) (t : Nat) (fp : Int32) (s a : Int32) (hs : ∀ j, j < 8 → s = nI j → P j = none) (o_ : Nat → Int64) : zCtrWD Dg yX0_above cX0_above 5 (some .int) [(0, 10, 13, 13), (0, 10, 17, 22)] 9 1 6 [zr 1 0, zi s, zi a, zr 22 0] ((xH P t fp) ++ [zAl 1 1 o_]) (fun r_ w_ => (∃ v_ w1_, (fun r w => False) (some v_) w1_ ∧ r_ = some (zi (nI 0)) ∧ w_ = w1_ ++ [zAl 1 1 (vp_updL o_ 0 (cvV v_))]) ∨ (∃ E_ w1_, (fun E w => E = eNSE ∧ True ∧ w = xH P t fp) E_ w1_ ∧ r_ = some (zi (nI 1)) ∧ w_ = w1_ ++ [zAl 1 1 o_])) zNx := by
  refine z_startWD (by decide) [some (zr 1 0), some (zi s), some (zi a), some (zr 22 0), none] rfl (fun _ => Nat.le_of_ble_eq_true rfl) (fun _ => rfl) (fun X hD F E hT hin => ?_)
  subst hD
  have hH : ∀ (k0 n0 : Nat), k0 ≤ 1 → n0 ≤ 6 → (True) → Z X [some (zr 1 0), some (zi s), some (zi a), some (zr 22 0), none] [zr 23 0] (xH P t fp ++ [zAl 1 1 o_]) k0 n0 13 := by
    intro k0 n0  hk0 hn0 h_2
    refine z_astore F dX0_above_13 (Nat.le_of_ble_eq_true rfl) ?_
    refine z_leq (L' := [_, _, _, _, _]) rfl ?_
    refine z_iconst F (nI 1) dX0_above_15 rfl ?_
    exact z_iret F E rfl dX0_above_16 (by omega) (by omega) (Or.inr ⟨_, _, ⟨rfl, h_2, rfl⟩, rfl, rfl⟩)
  refine z_aload_n F dX0_above_0 rfl ?_
  refine z_iconst F (nI 0) dX0_above_1 rfl ?_
  refine z_aload_n F dX0_above_2 rfl ?_
  refine z_iload_n F dX0_above_3 rfl ?_
  refine z_iload_n F dX0_above_4 rfl ?_
  refine z_callV F (c_pabove_no P t fp s a hs) 2 rfl (lw_V q897 q898 q899 q109 q900) (by decide +kernel) ⟨Nat.le_of_ble_eq_true rfl, Nat.le_of_ble_eq_true rfl⟩ ⟨by omega, by omega⟩ [0, 1, 2, 3, 4, 5, 6, 7, 8, 9, 10, 11, 12, 13, 14, 15, 16, 17, 18, 19, 20, 21] 23 ⟨rfl, rfl, rfl, ⟨Or.inr (congrArg some (zrnP rfl).symm), Or.inr rfl, Or.inl rfl, Or.inl rfl, Or.inl rfl, Or.inl rfl, Or.inl rfl, Or.inl rfl, Or.inl rfl, Or.inl rfl, Or.inl rfl, Or.inl rfl, Or.inl rfl, Or.inl rfl, Or.inl rfl, Or.inl rfl, Or.inl rfl, Or.inl rfl, Or.inl rfl, Or.inl rfl, Or.inl rfl, Or.inl rfl, trivial⟩⟩ (fun _ => rfl) (Nat.le_of_ble_eq_true rfl) ⟨⟨Or.inl rfl, Or.inl rfl, Or.inr trivial, Or.inr trivial, Or.inr trivial, Or.inr trivial, Or.inr trivial, Or.inr trivial, Or.inr trivial, Or.inr trivial, Or.inr trivial, Or.inr trivial, Or.inr trivial, Or.inr trivial, Or.inr trivial, Or.inr trivial, Or.inr trivial, Or.inr trivial, Or.inr trivial, Or.inr trivial, Or.inr trivial, Or.inr trivial, Or.inr trivial, trivial⟩, rfl, rfl, rfl, Nat.le_of_ble_eq_true rfl⟩ rfl zC1 rfl rfl dX0_above_5 (fun r_5 w_5 hp => ?_) (fun E_ w_ hx => by obtain ⟨rfl, h_2, rfl⟩ := hx; exact zx_catch F hT [] ⟨0, 10, 13, 13⟩ [⟨0, 10, 17, 22⟩] rfl (fun _ h => nomatch h) (by decide) (by decide) lw_nse (z_weq (w' := zPl (pR _) _ :: _) (congrArg (fun z => z :: _) (zrnP rfl)) (hH _ _  (by omega) (by omega) h_2)))
  exact hp.elim
theorem cw_pwalks_no (Dg : va_G) (P : zPt) (t : Nat) (fp : Int32) (s a : Int32) (hs : ∀ j, j < 8 → s = nI j → P j = none) (o_ : Nat → Int64) : zCtrWD Dg yX0_walks cX0_walks 5 (some .int) [(0, 9, 12, 13), (0, 9, 16, 22)] 9 1 6 [zr 1 0, zi s, zi a, zr 22 0] ((xH P t fp) ++ [zAl 1 1 o_]) (fun r_ w_ => (∃ v_ w1_, (fun r w => False) (some v_) w1_ ∧ r_ = some (zi (nI 0)) ∧ w_ = w1_ ++ [zAl 1 1 (vp_updL o_ 0 (cvV v_))]) ∨ (∃ E_ w1_, (fun E w => E = eNSE ∧ True ∧ w = xH P t fp) E_ w1_ ∧ r_ = some (zi (nI 1)) ∧ w_ = w1_ ++ [zAl 1 1 o_])) zNx := by
  refine z_startWD (by decide) [some (zr 1 0), some (zi s), some (zi a), some (zr 22 0), none] rfl (fun _ => Nat.le_of_ble_eq_true rfl) (fun _ => rfl) (fun X hD F E hT hin => ?_)
  subst hD
  have hH : ∀ (k0 n0 : Nat), k0 ≤ 1 → n0 ≤ 6 → (True) → Z X [some (zr 1 0), some (zi s), some (zi a), some (zr 22 0), none] [zr 23 0] (xH P t fp ++ [zAl 1 1 o_]) k0 n0 12 := by
    intro k0 n0  hk0 hn0 h_2
    refine z_astore F dX0_walks_12 (Nat.le_of_ble_eq_true rfl) ?_
    refine z_leq (L' := [_, _, _, _, _]) rfl ?_
    refine z_iconst F (nI 1) dX0_walks_14 rfl ?_
    exact z_iret F E rfl dX0_walks_15 (by omega) (by omega) (Or.inr ⟨_, _, ⟨rfl, h_2, rfl⟩, rfl, rfl⟩)
  refine z_aload_n F dX0_walks_0 rfl ?_
  refine z_iconst F (nI 0) dX0_walks_1 rfl ?_
  refine z_aload_n F dX0_walks_2 rfl ?_
  refine z_iload_n F dX0_walks_3 rfl ?_
  refine z_iload_n F dX0_walks_4 rfl ?_
  refine z_callV F (c_pwalks_no P t fp s a hs) 2 rfl (lw_V q908 q909 q910 q109 q911) (by decide +kernel) ⟨Nat.le_of_ble_eq_true rfl, Nat.le_of_ble_eq_true rfl⟩ ⟨by omega, by omega⟩ [0, 1, 2, 3, 4, 5, 6, 7, 8, 9, 10, 11, 12, 13, 14, 15, 16, 17, 18, 19, 20, 21] 23 ⟨rfl, rfl, rfl, ⟨Or.inr (congrArg some (zrnP rfl).symm), Or.inr rfl, Or.inl rfl, Or.inl rfl, Or.inl rfl, Or.inl rfl, Or.inl rfl, Or.inl rfl, Or.inl rfl, Or.inl rfl, Or.inl rfl, Or.inl rfl, Or.inl rfl, Or.inl rfl, Or.inl rfl, Or.inl rfl, Or.inl rfl, Or.inl rfl, Or.inl rfl, Or.inl rfl, Or.inl rfl, Or.inl rfl, trivial⟩⟩ (fun _ => rfl) (Nat.le_of_ble_eq_true rfl) ⟨⟨Or.inl rfl, Or.inl rfl, Or.inr trivial, Or.inr trivial, Or.inr trivial, Or.inr trivial, Or.inr trivial, Or.inr trivial, Or.inr trivial, Or.inr trivial, Or.inr trivial, Or.inr trivial, Or.inr trivial, Or.inr trivial, Or.inr trivial, Or.inr trivial, Or.inr trivial, Or.inr trivial, Or.inr trivial, Or.inr trivial, Or.inr trivial, Or.inr trivial, Or.inr trivial, trivial⟩, rfl, rfl, rfl, Nat.le_of_ble_eq_true rfl⟩ rfl zC1 rfl rfl dX0_walks_5 (fun r_5 w_5 hp => ?_) (fun E_ w_ hx => by obtain ⟨rfl, h_2, rfl⟩ := hx; exact zx_catch F hT [] ⟨0, 9, 12, 13⟩ [⟨0, 9, 16, 22⟩] rfl (fun _ h => nomatch h) (by decide) (by decide) lw_nse (z_weq (w' := zPl (pR _) _ :: _) (congrArg (fun z => z :: _) (zrnP rfl)) (hH _ _  (by omega) (by omega) h_2)))
  exact hp.elim
theorem cw_pchange_no (Dg : va_G) (P : zPt) (t : Nat) (fp : Int32) (s a b c : Int32) (hs : ∀ j, j < 8 → s = nI j → P j = none) (o_ : Nat → Int64) : zCtrWD Dg yX0_change cX0_change 7 (some .int) [(0, 21, 24, 13)] 9 1 6 [zr 1 0, zi s, zi a, zi b, zi c, zr 22 0] ((xH P t fp) ++ [zAl 1 1 o_]) (fun r_ w_ => (∃ v_ w1_, (fun r w => False) (some v_) w1_ ∧ r_ = some (zi (nI 0)) ∧ w_ = w1_ ++ [zAl 1 1 (vp_updL o_ 0 (cvV v_))]) ∨ (∃ E_ w1_, (fun E w => E = eNSE ∧ True ∧ w = xH P t fp) E_ w1_ ∧ r_ = some (zi (nI 1)) ∧ w_ = w1_ ++ [zAl 1 1 o_])) zNx := by
  refine z_startWD (by decide) [some (zr 1 0), some (zi s), some (zi a), some (zi b), some (zi c), some (zr 22 0), none] rfl (fun _ => Nat.le_of_ble_eq_true rfl) (fun _ => rfl) (fun X hD F E hT hin => ?_)
  subst hD
  have hH : ∀ (k0 n0 : Nat), k0 ≤ 1 → n0 ≤ 6 → (True) → Z X [some (zr 1 0), some (zi s), some (zi a), some (zi b), some (zi c), some (zr 22 0), none] [zr 23 0] (xH P t fp ++ [zAl 1 1 o_]) k0 n0 24 := by
    intro k0 n0  hk0 hn0 h_2
    refine z_astore F dX0_change_24 (Nat.le_of_ble_eq_true rfl) ?_
    refine z_leq (L' := [_, _, _, _, _, _, _]) rfl ?_
    refine z_iconst F (nI 1) dX0_change_26 rfl ?_
    exact z_iret F E rfl dX0_change_27 (by omega) (by omega) (Or.inr ⟨_, _, ⟨rfl, h_2, rfl⟩, rfl, rfl⟩)
  refine z_aload F dX0_change_0 rfl ?_
  refine z_iconst F (nI 0) dX0_change_2 rfl ?_
  refine z_aload_n F dX0_change_3 rfl ?_
  refine z_iload_n F dX0_change_4 rfl ?_
  refine z_iload_n F dX0_change_5 rfl ?_
  refine z_iload_n F dX0_change_6 rfl ?_
  refine z_iload F dX0_change_7 rfl ?_
  refine z_callV F (c_pchange_no P t fp s a b c hs) 4 rfl (lw_V q918 q919 q920 q109 q921) (by decide +kernel) ⟨Nat.le_of_ble_eq_true rfl, Nat.le_of_ble_eq_true rfl⟩ ⟨by omega, by omega⟩ [0, 1, 2, 3, 4, 5, 6, 7, 8, 9, 10, 11, 12, 13, 14, 15, 16, 17, 18, 19, 20, 21] 23 ⟨rfl, rfl, rfl, ⟨Or.inr (congrArg some (zrnP rfl).symm), Or.inr rfl, Or.inl rfl, Or.inl rfl, Or.inl rfl, Or.inl rfl, Or.inl rfl, Or.inl rfl, Or.inl rfl, Or.inl rfl, Or.inl rfl, Or.inl rfl, Or.inl rfl, Or.inl rfl, Or.inl rfl, Or.inl rfl, Or.inl rfl, Or.inl rfl, Or.inl rfl, Or.inl rfl, Or.inl rfl, Or.inl rfl, trivial⟩⟩ (fun _ => rfl) (Nat.le_of_ble_eq_true rfl) ⟨⟨Or.inl rfl, Or.inl rfl, Or.inr trivial, Or.inr trivial, Or.inr trivial, Or.inr trivial, Or.inr trivial, Or.inr trivial, Or.inr trivial, Or.inr trivial, Or.inr trivial, Or.inr trivial, Or.inr trivial, Or.inr trivial, Or.inr trivial, Or.inr trivial, Or.inr trivial, Or.inr trivial, Or.inr trivial, Or.inr trivial, Or.inr trivial, Or.inr trivial, Or.inr trivial, trivial⟩, rfl, rfl, rfl, Nat.le_of_ble_eq_true rfl⟩ rfl zC1 rfl rfl dX0_change_9 (fun r_9 w_9 hp => ?_) (fun E_ w_ hx => by obtain ⟨rfl, h_2, rfl⟩ := hx; exact zx_catch F hT [] ⟨0, 21, 24, 13⟩ [] rfl (fun _ h => nomatch h) (by decide) (by decide) lw_nse (z_weq (w' := zPl (pR _) _ :: _) (congrArg (fun z => z :: _) (zrnP rfl)) (hH _ _  (by omega) (by omega) h_2)))
  exact hp.elim
theorem cw_pbetter_no (Dg : va_G) (P : zPt) (t : Nat) (fp : Int32) (s : Int32) (hs : ∀ j, j < 8 → s = nI j → P j = none) (o_ : Nat → Int64) : zCtrWD Dg yX0_better cX0_better 4 (some .int) [(0, 9, 12, 13)] 9 1 6 [zr 1 0, zi s, zr 22 0] ((xH P t fp) ++ [zAl 1 1 o_]) (fun r_ w_ => (∃ v_ w1_, (fun r w => False) (some v_) w1_ ∧ r_ = some (zi (nI 0)) ∧ w_ = w1_ ++ [zAl 1 1 (vp_updL o_ 0 (cvV v_))]) ∨ (∃ E_ w1_, (fun E w => E = eNSE ∧ True ∧ w = xH P t fp) E_ w1_ ∧ r_ = some (zi (nI 1)) ∧ w_ = w1_ ++ [zAl 1 1 o_])) zNx := by
  refine z_startWD (by decide) [some (zr 1 0), some (zi s), some (zr 22 0), none] rfl (fun _ => Nat.le_of_ble_eq_true rfl) (fun _ => rfl) (fun X hD F E hT hin => ?_)
  subst hD
  have hH : ∀ (k0 n0 : Nat), k0 ≤ 1 → n0 ≤ 6 → (True) → Z X [some (zr 1 0), some (zi s), some (zr 22 0), none] [zr 23 0] (xH P t fp ++ [zAl 1 1 o_]) k0 n0 12 := by
    intro k0 n0  hk0 hn0 h_2
    refine z_astore_n F dX0_better_12 (Nat.le_of_ble_eq_true rfl) ?_
    refine z_leq (L' := [_, _, _, _]) rfl ?_
    refine z_iconst F (nI 1) dX0_better_13 rfl ?_
    exact z_iret F E rfl dX0_better_14 (by omega) (by omega) (Or.inr ⟨_, _, ⟨rfl, h_2, rfl⟩, rfl, rfl⟩)
  refine z_aload_n F dX0_better_0 rfl ?_
  refine z_iconst F (nI 0) dX0_better_1 rfl ?_
  refine z_aload_n F dX0_better_2 rfl ?_
  refine z_iload_n F dX0_better_3 rfl ?_
  refine z_callV F (c_pbetter_no P t fp s hs) 1 rfl (lw_V q928 q929 q930 q109 q931) (by decide +kernel) ⟨Nat.le_of_ble_eq_true rfl, Nat.le_of_ble_eq_true rfl⟩ ⟨by omega, by omega⟩ [0, 1, 2, 3, 4, 5, 6, 7, 8, 9, 10, 11, 12, 13, 14, 15, 16, 17, 18, 19, 20, 21] 23 ⟨rfl, rfl, rfl, ⟨Or.inr (congrArg some (zrnP rfl).symm), Or.inr rfl, Or.inl rfl, Or.inl rfl, Or.inl rfl, Or.inl rfl, Or.inl rfl, Or.inl rfl, Or.inl rfl, Or.inl rfl, Or.inl rfl, Or.inl rfl, Or.inl rfl, Or.inl rfl, Or.inl rfl, Or.inl rfl, Or.inl rfl, Or.inl rfl, Or.inl rfl, Or.inl rfl, Or.inl rfl, Or.inl rfl, trivial⟩⟩ (fun _ => rfl) (Nat.le_of_ble_eq_true rfl) ⟨⟨Or.inl rfl, Or.inl rfl, Or.inr trivial, Or.inr trivial, Or.inr trivial, Or.inr trivial, Or.inr trivial, Or.inr trivial, Or.inr trivial, Or.inr trivial, Or.inr trivial, Or.inr trivial, Or.inr trivial, Or.inr trivial, Or.inr trivial, Or.inr trivial, Or.inr trivial, Or.inr trivial, Or.inr trivial, Or.inr trivial, Or.inr trivial, Or.inr trivial, Or.inr trivial, trivial⟩, rfl, rfl, rfl, Nat.le_of_ble_eq_true rfl⟩ rfl zC1 rfl rfl dX0_better_4 (fun r_4 w_4 hp => ?_) (fun E_ w_ hx => by obtain ⟨rfl, h_2, rfl⟩ := hx; exact zx_catch F hT [] ⟨0, 9, 12, 13⟩ [] rfl (fun _ h => nomatch h) (by decide) (by decide) lw_nse (z_weq (w' := zPl (pR _) _ :: _) (congrArg (fun z => z :: _) (zrnP rfl)) (hH _ _  (by omega) (by omega) h_2)))
  exact hp.elim
theorem cw_pcool_no (Dg : va_G) (P : zPt) (t : Nat) (fp : Int32) (s a b c : Int32) (hs : ∀ j, j < 8 → s = nI j → P j = none) (o_ : Nat → Int64) : zCtrWD Dg yX0_cool cX0_cool 7 (some .int) [(0, 14, 17, 13), (0, 14, 21, 22)] 9 1 6 [zr 1 0, zi s, zi a, zi b, zi c, zr 22 0] ((xH P t fp) ++ [zAl 1 1 o_]) (fun r_ w_ => (∃ v_ w1_, (fun r w => False) (some v_) w1_ ∧ r_ = some (zi (nI 0)) ∧ w_ = w1_ ++ [zAl 1 1 (vp_updL o_ 0 (cvV v_))]) ∨ (∃ E_ w1_, (fun E w => E = eNSE ∧ True ∧ w = xH P t fp) E_ w1_ ∧ r_ = some (zi (nI 1)) ∧ w_ = w1_ ++ [zAl 1 1 o_])) zNx := by
  refine z_startWD (by decide) [some (zr 1 0), some (zi s), some (zi a), some (zi b), some (zi c), some (zr 22 0), none] rfl (fun _ => Nat.le_of_ble_eq_true rfl) (fun _ => rfl) (fun X hD F E hT hin => ?_)
  subst hD
  have hH : ∀ (k0 n0 : Nat), k0 ≤ 1 → n0 ≤ 6 → (True) → Z X [some (zr 1 0), some (zi s), some (zi a), some (zi b), some (zi c), some (zr 22 0), none] [zr 23 0] (xH P t fp ++ [zAl 1 1 o_]) k0 n0 17 := by
    intro k0 n0  hk0 hn0 h_2
    refine z_astore F dX0_cool_17 (Nat.le_of_ble_eq_true rfl) ?_
    refine z_leq (L' := [_, _, _, _, _, _, _]) rfl ?_
    refine z_iconst F (nI 1) dX0_cool_19 rfl ?_
    exact z_iret F E rfl dX0_cool_20 (by omega) (by omega) (Or.inr ⟨_, _, ⟨rfl, h_2, rfl⟩, rfl, rfl⟩)
  refine z_aload F dX0_cool_0 rfl ?_
  refine z_iconst F (nI 0) dX0_cool_2 rfl ?_
  refine z_aload_n F dX0_cool_3 rfl ?_
  refine z_iload_n F dX0_cool_4 rfl ?_
  refine z_iload_n F dX0_cool_5 rfl ?_
  refine z_iload_n F dX0_cool_6 rfl ?_
  refine z_iload F dX0_cool_7 rfl ?_
  refine z_callV F (c_pcool_no P t fp s a b c hs) 4 rfl (lw_V q942 q943 q944 q109 q945) (by decide +kernel) ⟨Nat.le_of_ble_eq_true rfl, Nat.le_of_ble_eq_true rfl⟩ ⟨by omega, by omega⟩ [0, 1, 2, 3, 4, 5, 6, 7, 8, 9, 10, 11, 12, 13, 14, 15, 16, 17, 18, 19, 20, 21] 23 ⟨rfl, rfl, rfl, ⟨Or.inr (congrArg some (zrnP rfl).symm), Or.inr rfl, Or.inl rfl, Or.inl rfl, Or.inl rfl, Or.inl rfl, Or.inl rfl, Or.inl rfl, Or.inl rfl, Or.inl rfl, Or.inl rfl, Or.inl rfl, Or.inl rfl, Or.inl rfl, Or.inl rfl, Or.inl rfl, Or.inl rfl, Or.inl rfl, Or.inl rfl, Or.inl rfl, Or.inl rfl, Or.inl rfl, trivial⟩⟩ (fun _ => rfl) (Nat.le_of_ble_eq_true rfl) ⟨⟨Or.inl rfl, Or.inl rfl, Or.inr trivial, Or.inr trivial, Or.inr trivial, Or.inr trivial, Or.inr trivial, Or.inr trivial, Or.inr trivial, Or.inr trivial, Or.inr trivial, Or.inr trivial, Or.inr trivial, Or.inr trivial, Or.inr trivial, Or.inr trivial, Or.inr trivial, Or.inr trivial, Or.inr trivial, Or.inr trivial, Or.inr trivial, Or.inr trivial, Or.inr trivial, trivial⟩, rfl, rfl, rfl, Nat.le_of_ble_eq_true rfl⟩ rfl zC1 rfl rfl dX0_cool_9 (fun r_9 w_9 hp => ?_) (fun E_ w_ hx => by obtain ⟨rfl, h_2, rfl⟩ := hx; exact zx_catch F hT [] ⟨0, 14, 17, 13⟩ [⟨0, 14, 21, 22⟩] rfl (fun _ h => nomatch h) (by decide) (by decide) lw_nse (z_weq (w' := zPl (pR _) _ :: _) (congrArg (fun z => z :: _) (zrnP rfl)) (hH _ _  (by omega) (by omega) h_2)))
  exact hp.elim
theorem cw_pfalls_no (Dg : va_G) (P : zPt) (t : Nat) (fp : Int32) (s a b : Int32) (hs : ∀ j, j < 8 → s = nI j → P j = none) (o_ : Nat → Int64) : zCtrWD Dg yX0_falls cX0_falls 6 (some .int) [(0, 12, 15, 13), (0, 12, 19, 22)] 9 1 6 [zr 1 0, zi s, zi a, zi b, zr 22 0] ((xH P t fp) ++ [zAl 1 1 o_]) (fun r_ w_ => (∃ v_ w1_, (fun r w => False) (some v_) w1_ ∧ r_ = some (zi (nI 0)) ∧ w_ = w1_ ++ [zAl 1 1 (vp_updL o_ 0 (cvV v_))]) ∨ (∃ E_ w1_, (fun E w => E = eNSE ∧ True ∧ w = xH P t fp) E_ w1_ ∧ r_ = some (zi (nI 1)) ∧ w_ = w1_ ++ [zAl 1 1 o_])) zNx := by
  refine z_startWD (by decide) [some (zr 1 0), some (zi s), some (zi a), some (zi b), some (zr 22 0), none] rfl (fun _ => Nat.le_of_ble_eq_true rfl) (fun _ => rfl) (fun X hD F E hT hin => ?_)
  subst hD
  have hH : ∀ (k0 n0 : Nat), k0 ≤ 1 → n0 ≤ 6 → (True) → Z X [some (zr 1 0), some (zi s), some (zi a), some (zi b), some (zr 22 0), none] [zr 23 0] (xH P t fp ++ [zAl 1 1 o_]) k0 n0 15 := by
    intro k0 n0  hk0 hn0 h_2
    refine z_astore F dX0_falls_15 (Nat.le_of_ble_eq_true rfl) ?_
    refine z_leq (L' := [_, _, _, _, _, _]) rfl ?_
    refine z_iconst F (nI 1) dX0_falls_17 rfl ?_
    exact z_iret F E rfl dX0_falls_18 (by omega) (by omega) (Or.inr ⟨_, _, ⟨rfl, h_2, rfl⟩, rfl, rfl⟩)
  refine z_aload F dX0_falls_0 rfl ?_
  refine z_iconst F (nI 0) dX0_falls_2 rfl ?_
  refine z_aload_n F dX0_falls_3 rfl ?_
  refine z_iload_n F dX0_falls_4 rfl ?_
  refine z_iload_n F dX0_falls_5 rfl ?_
  refine z_iload_n F dX0_falls_6 rfl ?_
  refine z_callV F (c_pfalls_no P t fp s a b hs) 3 rfl (lw_V q1067 q1068 q1069 q109 q1070) (by decide +kernel) ⟨Nat.le_of_ble_eq_true rfl, Nat.le_of_ble_eq_true rfl⟩ ⟨by omega, by omega⟩ [0, 1, 2, 3, 4, 5, 6, 7, 8, 9, 10, 11, 12, 13, 14, 15, 16, 17, 18, 19, 20, 21] 23 ⟨rfl, rfl, rfl, ⟨Or.inr (congrArg some (zrnP rfl).symm), Or.inr rfl, Or.inl rfl, Or.inl rfl, Or.inl rfl, Or.inl rfl, Or.inl rfl, Or.inl rfl, Or.inl rfl, Or.inl rfl, Or.inl rfl, Or.inl rfl, Or.inl rfl, Or.inl rfl, Or.inl rfl, Or.inl rfl, Or.inl rfl, Or.inl rfl, Or.inl rfl, Or.inl rfl, Or.inl rfl, Or.inl rfl, trivial⟩⟩ (fun _ => rfl) (Nat.le_of_ble_eq_true rfl) ⟨⟨Or.inl rfl, Or.inl rfl, Or.inr trivial, Or.inr trivial, Or.inr trivial, Or.inr trivial, Or.inr trivial, Or.inr trivial, Or.inr trivial, Or.inr trivial, Or.inr trivial, Or.inr trivial, Or.inr trivial, Or.inr trivial, Or.inr trivial, Or.inr trivial, Or.inr trivial, Or.inr trivial, Or.inr trivial, Or.inr trivial, Or.inr trivial, Or.inr trivial, Or.inr trivial, trivial⟩, rfl, rfl, rfl, Nat.le_of_ble_eq_true rfl⟩ rfl zC1 rfl rfl dX0_falls_7 (fun r_7 w_7 hp => ?_) (fun E_ w_ hx => by obtain ⟨rfl, h_2, rfl⟩ := hx; exact zx_catch F hT [] ⟨0, 12, 15, 13⟩ [⟨0, 12, 19, 22⟩] rfl (fun _ h => nomatch h) (by decide) (by decide) lw_nse (z_weq (w' := zPl (pR _) _ :: _) (congrArg (fun z => z :: _) (zrnP rfl)) (hH _ _  (by omega) (by omega) h_2)))
  exact hp.elim
theorem cw_phalves_no (Dg : va_G) (P : zPt) (t : Nat) (fp : Int32) (s : Int32) (hs : ∀ j, j < 8 → s = nI j → P j = none) (o_ : Nat → Int64) : zCtrWD Dg yX0_halves cX0_halves 4 (some .int) [(0, 9, 12, 13)] 9 1 6 [zr 1 0, zi s, zr 22 0] ((xH P t fp) ++ [zAl 1 1 o_]) (fun r_ w_ => (∃ v_ w1_, (fun r w => False) (some v_) w1_ ∧ r_ = some (zi (nI 0)) ∧ w_ = w1_ ++ [zAl 1 1 (vp_updL o_ 0 (cvV v_))]) ∨ (∃ E_ w1_, (fun E w => E = eNSE ∧ True ∧ w = xH P t fp) E_ w1_ ∧ r_ = some (zi (nI 1)) ∧ w_ = w1_ ++ [zAl 1 1 o_])) zNx := by
  refine z_startWD (by decide) [some (zr 1 0), some (zi s), some (zr 22 0), none] rfl (fun _ => Nat.le_of_ble_eq_true rfl) (fun _ => rfl) (fun X hD F E hT hin => ?_)
  subst hD
  have hH : ∀ (k0 n0 : Nat), k0 ≤ 1 → n0 ≤ 6 → (True) → Z X [some (zr 1 0), some (zi s), some (zr 22 0), none] [zr 23 0] (xH P t fp ++ [zAl 1 1 o_]) k0 n0 12 := by
    intro k0 n0  hk0 hn0 h_2
    refine z_astore_n F dX0_halves_12 (Nat.le_of_ble_eq_true rfl) ?_
    refine z_leq (L' := [_, _, _, _]) rfl ?_
    refine z_iconst F (nI 1) dX0_halves_13 rfl ?_
    exact z_iret F E rfl dX0_halves_14 (by omega) (by omega) (Or.inr ⟨_, _, ⟨rfl, h_2, rfl⟩, rfl, rfl⟩)
  refine z_aload_n F dX0_halves_0 rfl ?_
  refine z_iconst F (nI 0) dX0_halves_1 rfl ?_
  refine z_aload_n F dX0_halves_2 rfl ?_
  refine z_iload_n F dX0_halves_3 rfl ?_
  refine z_callV F (c_phalves_no P t fp s hs) 1 rfl (lw_V q1214 q1215 q1216 q109 q1217) (by decide +kernel) ⟨Nat.le_of_ble_eq_true rfl, Nat.le_of_ble_eq_true rfl⟩ ⟨by omega, by omega⟩ [0, 1, 2, 3, 4, 5, 6, 7, 8, 9, 10, 11, 12, 13, 14, 15, 16, 17, 18, 19, 20, 21] 23 ⟨rfl, rfl, rfl, ⟨Or.inr (congrArg some (zrnP rfl).symm), Or.inr rfl, Or.inl rfl, Or.inl rfl, Or.inl rfl, Or.inl rfl, Or.inl rfl, Or.inl rfl, Or.inl rfl, Or.inl rfl, Or.inl rfl, Or.inl rfl, Or.inl rfl, Or.inl rfl, Or.inl rfl, Or.inl rfl, Or.inl rfl, Or.inl rfl, Or.inl rfl, Or.inl rfl, Or.inl rfl, Or.inl rfl, trivial⟩⟩ (fun _ => rfl) (Nat.le_of_ble_eq_true rfl) ⟨⟨Or.inl rfl, Or.inl rfl, Or.inr trivial, Or.inr trivial, Or.inr trivial, Or.inr trivial, Or.inr trivial, Or.inr trivial, Or.inr trivial, Or.inr trivial, Or.inr trivial, Or.inr trivial, Or.inr trivial, Or.inr trivial, Or.inr trivial, Or.inr trivial, Or.inr trivial, Or.inr trivial, Or.inr trivial, Or.inr trivial, Or.inr trivial, Or.inr trivial, Or.inr trivial, trivial⟩, rfl, rfl, rfl, Nat.le_of_ble_eq_true rfl⟩ rfl zC1 rfl rfl dX0_halves_4 (fun r_4 w_4 hp => ?_) (fun E_ w_ hx => by obtain ⟨rfl, h_2, rfl⟩ := hx; exact zx_catch F hT [] ⟨0, 9, 12, 13⟩ [] rfl (fun _ h => nomatch h) (by decide) (by decide) lw_nse (z_weq (w' := zPl (pR _) _ :: _) (congrArg (fun z => z :: _) (zrnP rfl)) (hH _ _  (by omega) (by omega) h_2)))
  exact hp.elim
theorem cw_play_no (Dg : va_G) (P : zPt) (t : Nat) (fp : Int32) (s a : Int32) (hs : ∀ j, j < 8 → s = nI j → P j = none) (o_ : Nat → Int64) : zCtrWD Dg yX0_lay cX0_lay 5 (some .int) [(0, 10, 13, 13), (0, 10, 17, 22)] 9 1 6 [zr 1 0, zi s, zi a, zr 22 0] ((xH P t fp) ++ [zAl 1 1 o_]) (fun r_ w_ => (∃ v_ w1_, (fun r w => False) (some v_) w1_ ∧ r_ = some (zi (nI 0)) ∧ w_ = w1_ ++ [zAl 1 1 (vp_updL o_ 0 (cvV v_))]) ∨ (∃ E_ w1_, (fun E w => E = eNSE ∧ True ∧ w = xH P t fp) E_ w1_ ∧ r_ = some (zi (nI 1)) ∧ w_ = w1_ ++ [zAl 1 1 o_])) zNx := by
  refine z_startWD (by decide) [some (zr 1 0), some (zi s), some (zi a), some (zr 22 0), none] rfl (fun _ => Nat.le_of_ble_eq_true rfl) (fun _ => rfl) (fun X hD F E hT hin => ?_)
  subst hD
  have hH : ∀ (k0 n0 : Nat), k0 ≤ 1 → n0 ≤ 6 → (True) → Z X [some (zr 1 0), some (zi s), some (zi a), some (zr 22 0), none] [zr 23 0] (xH P t fp ++ [zAl 1 1 o_]) k0 n0 13 := by
    intro k0 n0  hk0 hn0 h_2
    refine z_astore F dX0_lay_13 (Nat.le_of_ble_eq_true rfl) ?_
    refine z_leq (L' := [_, _, _, _, _]) rfl ?_
    refine z_iconst F (nI 1) dX0_lay_15 rfl ?_
    exact z_iret F E rfl dX0_lay_16 (by omega) (by omega) (Or.inr ⟨_, _, ⟨rfl, h_2, rfl⟩, rfl, rfl⟩)
  refine z_aload_n F dX0_lay_0 rfl ?_
  refine z_iconst F (nI 0) dX0_lay_1 rfl ?_
  refine z_aload_n F dX0_lay_2 rfl ?_
  refine z_iload_n F dX0_lay_3 rfl ?_
  refine z_iload_n F dX0_lay_4 rfl ?_
  refine z_callV F (c_play_no P t fp s a hs) 2 rfl (lw_V q1223 q1224 q1225 q109 q1226) (by decide +kernel) ⟨Nat.le_of_ble_eq_true rfl, Nat.le_of_ble_eq_true rfl⟩ ⟨by omega, by omega⟩ [0, 1, 2, 3, 4, 5, 6, 7, 8, 9, 10, 11, 12, 13, 14, 15, 16, 17, 18, 19, 20, 21] 23 ⟨rfl, rfl, rfl, ⟨Or.inr (congrArg some (zrnP rfl).symm), Or.inr rfl, Or.inl rfl, Or.inl rfl, Or.inl rfl, Or.inl rfl, Or.inl rfl, Or.inl rfl, Or.inl rfl, Or.inl rfl, Or.inl rfl, Or.inl rfl, Or.inl rfl, Or.inl rfl, Or.inl rfl, Or.inl rfl, Or.inl rfl, Or.inl rfl, Or.inl rfl, Or.inl rfl, Or.inl rfl, Or.inl rfl, trivial⟩⟩ (fun _ => rfl) (Nat.le_of_ble_eq_true rfl) ⟨⟨Or.inl rfl, Or.inl rfl, Or.inr trivial, Or.inr trivial, Or.inr trivial, Or.inr trivial, Or.inr trivial, Or.inr trivial, Or.inr trivial, Or.inr trivial, Or.inr trivial, Or.inr trivial, Or.inr trivial, Or.inr trivial, Or.inr trivial, Or.inr trivial, Or.inr trivial, Or.inr trivial, Or.inr trivial, Or.inr trivial, Or.inr trivial, Or.inr trivial, Or.inr trivial, trivial⟩, rfl, rfl, rfl, Nat.le_of_ble_eq_true rfl⟩ rfl zC1 rfl rfl dX0_lay_5 (fun r_5 w_5 hp => ?_) (fun E_ w_ hx => by obtain ⟨rfl, h_2, rfl⟩ := hx; exact zx_catch F hT [] ⟨0, 10, 13, 13⟩ [⟨0, 10, 17, 22⟩] rfl (fun _ h => nomatch h) (by decide) (by decide) lw_nse (z_weq (w' := zPl (pR _) _ :: _) (congrArg (fun z => z :: _) (zrnP rfl)) (hH _ _  (by omega) (by omega) h_2)))
  exact hp.elim
theorem cw_phop_no (Dg : va_G) (P : zPt) (t : Nat) (fp : Int32) (s a b : Int32) (hs : ∀ j, j < 8 → s = nI j → P j = none) (o_ : Nat → Int64) : zCtrWD Dg yX0_hop cX0_hop 6 (some .int) [(0, 12, 15, 13)] 9 1 6 [zr 1 0, zi s, zi a, zi b, zr 22 0] ((xH P t fp) ++ [zAl 1 1 o_]) (fun r_ w_ => (∃ v_ w1_, (fun r w => False) (some v_) w1_ ∧ r_ = some (zi (nI 0)) ∧ w_ = w1_ ++ [zAl 1 1 (vp_updL o_ 0 (cvV v_))]) ∨ (∃ E_ w1_, (fun E w => E = eNSE ∧ True ∧ w = xH P t fp) E_ w1_ ∧ r_ = some (zi (nI 1)) ∧ w_ = w1_ ++ [zAl 1 1 o_])) zNx := by
  refine z_startWD (by decide) [some (zr 1 0), some (zi s), some (zi a), some (zi b), some (zr 22 0), none] rfl (fun _ => Nat.le_of_ble_eq_true rfl) (fun _ => rfl) (fun X hD F E hT hin => ?_)
  subst hD
  have hH : ∀ (k0 n0 : Nat), k0 ≤ 1 → n0 ≤ 6 → (True) → Z X [some (zr 1 0), some (zi s), some (zi a), some (zi b), some (zr 22 0), none] [zr 23 0] (xH P t fp ++ [zAl 1 1 o_]) k0 n0 15 := by
    intro k0 n0  hk0 hn0 h_2
    refine z_astore F dX0_hop_15 (Nat.le_of_ble_eq_true rfl) ?_
    refine z_leq (L' := [_, _, _, _, _, _]) rfl ?_
    refine z_iconst F (nI 1) dX0_hop_17 rfl ?_
    exact z_iret F E rfl dX0_hop_18 (by omega) (by omega) (Or.inr ⟨_, _, ⟨rfl, h_2, rfl⟩, rfl, rfl⟩)
  refine z_aload F dX0_hop_0 rfl ?_
  refine z_iconst F (nI 0) dX0_hop_2 rfl ?_
  refine z_aload_n F dX0_hop_3 rfl ?_
  refine z_iload_n F dX0_hop_4 rfl ?_
  refine z_iload_n F dX0_hop_5 rfl ?_
  refine z_iload_n F dX0_hop_6 rfl ?_
  refine z_callV F (c_phop_no P t fp s a b hs) 3 rfl (lw_V q1292 q1293 q1294 q109 q1295) (by decide +kernel) ⟨Nat.le_of_ble_eq_true rfl, Nat.le_of_ble_eq_true rfl⟩ ⟨by omega, by omega⟩ [0, 1, 2, 3, 4, 5, 6, 7, 8, 9, 10, 11, 12, 13, 14, 15, 16, 17, 18, 19, 20, 21] 23 ⟨rfl, rfl, rfl, ⟨Or.inr (congrArg some (zrnP rfl).symm), Or.inr rfl, Or.inl rfl, Or.inl rfl, Or.inl rfl, Or.inl rfl, Or.inl rfl, Or.inl rfl, Or.inl rfl, Or.inl rfl, Or.inl rfl, Or.inl rfl, Or.inl rfl, Or.inl rfl, Or.inl rfl, Or.inl rfl, Or.inl rfl, Or.inl rfl, Or.inl rfl, Or.inl rfl, Or.inl rfl, Or.inl rfl, trivial⟩⟩ (fun _ => rfl) (Nat.le_of_ble_eq_true rfl) ⟨⟨Or.inl rfl, Or.inl rfl, Or.inr trivial, Or.inr trivial, Or.inr trivial, Or.inr trivial, Or.inr trivial, Or.inr trivial, Or.inr trivial, Or.inr trivial, Or.inr trivial, Or.inr trivial, Or.inr trivial, Or.inr trivial, Or.inr trivial, Or.inr trivial, Or.inr trivial, Or.inr trivial, Or.inr trivial, Or.inr trivial, Or.inr trivial, Or.inr trivial, Or.inr trivial, trivial⟩, rfl, rfl, rfl, Nat.le_of_ble_eq_true rfl⟩ rfl zC1 rfl rfl dX0_hop_7 (fun r_7 w_7 hp => ?_) (fun E_ w_ hx => by obtain ⟨rfl, h_2, rfl⟩ := hx; exact zx_catch F hT [] ⟨0, 12, 15, 13⟩ [] rfl (fun _ h => nomatch h) (by decide) (by decide) lw_nse (z_weq (w' := zPl (pR _) _ :: _) (congrArg (fun z => z :: _) (zrnP rfl)) (hH _ _  (by omega) (by omega) h_2)))
  exact hp.elim
theorem cw_pload_no (Dg : va_G) (P : zPt) (t : Nat) (fp : Int32) (s a b : Int32) (hs : ∀ j, j < 8 → s = nI j → P j = none) (o_ : Nat → Int64) : zCtrWD Dg yX0_load cX0_load 6 (some .int) [(0, 12, 15, 13)] 9 1 6 [zr 1 0, zi s, zi a, zi b, zr 22 0] ((xH P t fp) ++ [zAl 1 1 o_]) (fun r_ w_ => (∃ v_ w1_, (fun r w => False) (some v_) w1_ ∧ r_ = some (zi (nI 0)) ∧ w_ = w1_ ++ [zAl 1 1 (vp_updL o_ 0 (cvV v_))]) ∨ (∃ E_ w1_, (fun E w => E = eNSE ∧ True ∧ w = xH P t fp) E_ w1_ ∧ r_ = some (zi (nI 1)) ∧ w_ = w1_ ++ [zAl 1 1 o_])) zNx := by
  refine z_startWD (by decide) [some (zr 1 0), some (zi s), some (zi a), some (zi b), some (zr 22 0), none] rfl (fun _ => Nat.le_of_ble_eq_true rfl) (fun _ => rfl) (fun X hD F E hT hin => ?_)
  subst hD
  have hH : ∀ (k0 n0 : Nat), k0 ≤ 1 → n0 ≤ 6 → (True) → Z X [some (zr 1 0), some (zi s), some (zi a), some (zi b), some (zr 22 0), none] [zr 23 0] (xH P t fp ++ [zAl 1 1 o_]) k0 n0 15 := by
    intro k0 n0  hk0 hn0 h_2
    refine z_astore F dX0_load_15 (Nat.le_of_ble_eq_true rfl) ?_
    refine z_leq (L' := [_, _, _, _, _, _]) rfl ?_
    refine z_iconst F (nI 1) dX0_load_17 rfl ?_
    exact z_iret F E rfl dX0_load_18 (by omega) (by omega) (Or.inr ⟨_, _, ⟨rfl, h_2, rfl⟩, rfl, rfl⟩)
  refine z_aload F dX0_load_0 rfl ?_
  refine z_iconst F (nI 0) dX0_load_2 rfl ?_
  refine z_aload_n F dX0_load_3 rfl ?_
  refine z_iload_n F dX0_load_4 rfl ?_
  refine z_iload_n F dX0_load_5 rfl ?_
  refine z_iload_n F dX0_load_6 rfl ?_
  refine z_callV F (c_pload_no P t fp s a b hs) 3 rfl (lw_V q1364 q1365 q1366 q109 q1367) (by decide +kernel) ⟨Nat.le_of_ble_eq_true rfl, Nat.le_of_ble_eq_true rfl⟩ ⟨by omega, by omega⟩ [0, 1, 2, 3, 4, 5, 6, 7, 8, 9, 10, 11, 12, 13, 14, 15, 16, 17, 18, 19, 20, 21] 23 ⟨rfl, rfl, rfl, ⟨Or.inr (congrArg some (zrnP rfl).symm), Or.inr rfl, Or.inl rfl, Or.inl rfl, Or.inl rfl, Or.inl rfl, Or.inl rfl, Or.inl rfl, Or.inl rfl, Or.inl rfl, Or.inl rfl, Or.inl rfl, Or.inl rfl, Or.inl rfl, Or.inl rfl, Or.inl rfl, Or.inl rfl, Or.inl rfl, Or.inl rfl, Or.inl rfl, Or.inl rfl, Or.inl rfl, trivial⟩⟩ (fun _ => rfl) (Nat.le_of_ble_eq_true rfl) ⟨⟨Or.inl rfl, Or.inl rfl, Or.inr trivial, Or.inr trivial, Or.inr trivial, Or.inr trivial, Or.inr trivial, Or.inr trivial, Or.inr trivial, Or.inr trivial, Or.inr trivial, Or.inr trivial, Or.inr trivial, Or.inr trivial, Or.inr trivial, Or.inr trivial, Or.inr trivial, Or.inr trivial, Or.inr trivial, Or.inr trivial, Or.inr trivial, Or.inr trivial, Or.inr trivial, trivial⟩, rfl, rfl, rfl, Nat.le_of_ble_eq_true rfl⟩ rfl zC1 rfl rfl dX0_load_7 (fun r_7 w_7 hp => ?_) (fun E_ w_ hx => by obtain ⟨rfl, h_2, rfl⟩ := hx; exact zx_catch F hT [] ⟨0, 12, 15, 13⟩ [] rfl (fun _ h => nomatch h) (by decide) (by decide) lw_nse (z_weq (w' := zPl (pR _) _ :: _) (congrArg (fun z => z :: _) (zrnP rfl)) (hH _ _  (by omega) (by omega) h_2)))
  exact hp.elim
theorem cw_pheavy_no (Dg : va_G) (P : zPt) (t : Nat) (fp : Int32) (s a : Int32) (hs : ∀ j, j < 8 → s = nI j → P j = none) (o_ : Nat → Int64) : zCtrWD Dg yX0_heavy cX0_heavy 5 (some .int) [(0, 10, 13, 13)] 9 1 6 [zr 1 0, zi s, zi a, zr 22 0] ((xH P t fp) ++ [zAl 1 1 o_]) (fun r_ w_ => (∃ v_ w1_, (fun r w => False) (some v_) w1_ ∧ r_ = some (zi (nI 0)) ∧ w_ = w1_ ++ [zAl 1 1 (vp_updL o_ 0 (cvV v_))]) ∨ (∃ E_ w1_, (fun E w => E = eNSE ∧ True ∧ w = xH P t fp) E_ w1_ ∧ r_ = some (zi (nI 1)) ∧ w_ = w1_ ++ [zAl 1 1 o_])) zNx := by
  refine z_startWD (by decide) [some (zr 1 0), some (zi s), some (zi a), some (zr 22 0), none] rfl (fun _ => Nat.le_of_ble_eq_true rfl) (fun _ => rfl) (fun X hD F E hT hin => ?_)
  subst hD
  have hH : ∀ (k0 n0 : Nat), k0 ≤ 1 → n0 ≤ 6 → (True) → Z X [some (zr 1 0), some (zi s), some (zi a), some (zr 22 0), none] [zr 23 0] (xH P t fp ++ [zAl 1 1 o_]) k0 n0 13 := by
    intro k0 n0  hk0 hn0 h_2
    refine z_astore F dX0_heavy_13 (Nat.le_of_ble_eq_true rfl) ?_
    refine z_leq (L' := [_, _, _, _, _]) rfl ?_
    refine z_iconst F (nI 1) dX0_heavy_15 rfl ?_
    exact z_iret F E rfl dX0_heavy_16 (by omega) (by omega) (Or.inr ⟨_, _, ⟨rfl, h_2, rfl⟩, rfl, rfl⟩)
  refine z_aload_n F dX0_heavy_0 rfl ?_
  refine z_iconst F (nI 0) dX0_heavy_1 rfl ?_
  refine z_aload_n F dX0_heavy_2 rfl ?_
  refine z_iload_n F dX0_heavy_3 rfl ?_
  refine z_iload_n F dX0_heavy_4 rfl ?_
  refine z_callV F (c_pheavy_no P t fp s a hs) 2 rfl (lw_V q1371 q1372 q1373 q109 q1374) (by decide +kernel) ⟨Nat.le_of_ble_eq_true rfl, Nat.le_of_ble_eq_true rfl⟩ ⟨by omega, by omega⟩ [0, 1, 2, 3, 4, 5, 6, 7, 8, 9, 10, 11, 12, 13, 14, 15, 16, 17, 18, 19, 20, 21] 23 ⟨rfl, rfl, rfl, ⟨Or.inr (congrArg some (zrnP rfl).symm), Or.inr rfl, Or.inl rfl, Or.inl rfl, Or.inl rfl, Or.inl rfl, Or.inl rfl, Or.inl rfl, Or.inl rfl, Or.inl rfl, Or.inl rfl, Or.inl rfl, Or.inl rfl, Or.inl rfl, Or.inl rfl, Or.inl rfl, Or.inl rfl, Or.inl rfl, Or.inl rfl, Or.inl rfl, Or.inl rfl, Or.inl rfl, trivial⟩⟩ (fun _ => rfl) (Nat.le_of_ble_eq_true rfl) ⟨⟨Or.inl rfl, Or.inl rfl, Or.inr trivial, Or.inr trivial, Or.inr trivial, Or.inr trivial, Or.inr trivial, Or.inr trivial, Or.inr trivial, Or.inr trivial, Or.inr trivial, Or.inr trivial, Or.inr trivial, Or.inr trivial, Or.inr trivial, Or.inr trivial, Or.inr trivial, Or.inr trivial, Or.inr trivial, Or.inr trivial, Or.inr trivial, Or.inr trivial, Or.inr trivial, trivial⟩, rfl, rfl, rfl, Nat.le_of_ble_eq_true rfl⟩ rfl zC1 rfl rfl dX0_heavy_5 (fun r_5 w_5 hp => ?_) (fun E_ w_ hx => by obtain ⟨rfl, h_2, rfl⟩ := hx; exact zx_catch F hT [] ⟨0, 10, 13, 13⟩ [] rfl (fun _ h => nomatch h) (by decide) (by decide) lw_nse (z_weq (w' := zPl (pR _) _ :: _) (congrArg (fun z => z :: _) (zrnP rfl)) (hH _ _  (by omega) (by omega) h_2)))
  exact hp.elim
theorem cw_pupward_no (Dg : va_G) (P : zPt) (t : Nat) (fp : Int32) (s a b : Int32) (hs : ∀ j, j < 8 → s = nI j → P j = none) (o_ : Nat → Int64) : zCtrWD Dg yX0_upward cX0_upward 6 (some .int) [(0, 12, 15, 13)] 9 1 6 [zr 1 0, zi s, zi a, zi b, zr 22 0] ((xH P t fp) ++ [zAl 1 1 o_]) (fun r_ w_ => (∃ v_ w1_, (fun r w => False) (some v_) w1_ ∧ r_ = some (zi (nI 0)) ∧ w_ = w1_ ++ [zAl 1 1 (vp_updL o_ 0 (cvV v_))]) ∨ (∃ E_ w1_, (fun E w => E = eNSE ∧ True ∧ w = xH P t fp) E_ w1_ ∧ r_ = some (zi (nI 1)) ∧ w_ = w1_ ++ [zAl 1 1 o_])) zNx := by
  refine z_startWD (by decide) [some (zr 1 0), some (zi s), some (zi a), some (zi b), some (zr 22 0), none] rfl (fun _ => Nat.le_of_ble_eq_true rfl) (fun _ => rfl) (fun X hD F E hT hin => ?_)
  subst hD
  have hH : ∀ (k0 n0 : Nat), k0 ≤ 1 → n0 ≤ 6 → (True) → Z X [some (zr 1 0), some (zi s), some (zi a), some (zi b), some (zr 22 0), none] [zr 23 0] (xH P t fp ++ [zAl 1 1 o_]) k0 n0 15 := by
    intro k0 n0  hk0 hn0 h_2
    refine z_astore F dX0_upward_15 (Nat.le_of_ble_eq_true rfl) ?_
    refine z_leq (L' := [_, _, _, _, _, _]) rfl ?_
    refine z_iconst F (nI 1) dX0_upward_17 rfl ?_
    exact z_iret F E rfl dX0_upward_18 (by omega) (by omega) (Or.inr ⟨_, _, ⟨rfl, h_2, rfl⟩, rfl, rfl⟩)
  refine z_aload F dX0_upward_0 rfl ?_
  refine z_iconst F (nI 0) dX0_upward_2 rfl ?_
  refine z_aload_n F dX0_upward_3 rfl ?_
  refine z_iload_n F dX0_upward_4 rfl ?_
  refine z_iload_n F dX0_upward_5 rfl ?_
  refine z_iload_n F dX0_upward_6 rfl ?_
  refine z_callV F (c_pupward_no P t fp s a b hs) 3 rfl (lw_V q1399 q1400 q1401 q109 q1402) (by decide +kernel) ⟨Nat.le_of_ble_eq_true rfl, Nat.le_of_ble_eq_true rfl⟩ ⟨by omega, by omega⟩ [0, 1, 2, 3, 4, 5, 6, 7, 8, 9, 10, 11, 12, 13, 14, 15, 16, 17, 18, 19, 20, 21] 23 ⟨rfl, rfl, rfl, ⟨Or.inr (congrArg some (zrnP rfl).symm), Or.inr rfl, Or.inl rfl, Or.inl rfl, Or.inl rfl, Or.inl rfl, Or.inl rfl, Or.inl rfl, Or.inl rfl, Or.inl rfl, Or.inl rfl, Or.inl rfl, Or.inl rfl, Or.inl rfl, Or.inl rfl, Or.inl rfl, Or.inl rfl, Or.inl rfl, Or.inl rfl, Or.inl rfl, Or.inl rfl, Or.inl rfl, trivial⟩⟩ (fun _ => rfl) (Nat.le_of_ble_eq_true rfl) ⟨⟨Or.inl rfl, Or.inl rfl, Or.inr trivial, Or.inr trivial, Or.inr trivial, Or.inr trivial, Or.inr trivial, Or.inr trivial, Or.inr trivial, Or.inr trivial, Or.inr trivial, Or.inr trivial, Or.inr trivial, Or.inr trivial, Or.inr trivial, Or.inr trivial, Or.inr trivial, Or.inr trivial, Or.inr trivial, Or.inr trivial, Or.inr trivial, Or.inr trivial, Or.inr trivial, trivial⟩, rfl, rfl, rfl, Nat.le_of_ble_eq_true rfl⟩ rfl zC1 rfl rfl dX0_upward_7 (fun r_7 w_7 hp => ?_) (fun E_ w_ hx => by obtain ⟨rfl, h_2, rfl⟩ := hx; exact zx_catch F hT [] ⟨0, 12, 15, 13⟩ [] rfl (fun _ h => nomatch h) (by decide) (by decide) lw_nse (z_weq (w' := zPl (pR _) _ :: _) (congrArg (fun z => z :: _) (zrnP rfl)) (hH _ _  (by omega) (by omega) h_2)))
  exact hp.elim
theorem cw_ptell_no (Dg : va_G) (P : zPt) (t : Nat) (fp : Int32) (s a : Int32) (hs : ∀ j, j < 8 → s = nI j → P j = none) (o_ : Nat → Int64) : zCtrWD Dg yX0_tell cX0_tell 5 (some .int) [(0, 10, 13, 13)] 9 1 6 [zr 1 0, zi s, zi a, zr 22 0] ((xH P t fp) ++ [zAl 1 1 o_]) (fun r_ w_ => (∃ v_ w1_, (fun r w => False) (some v_) w1_ ∧ r_ = some (zi (nI 0)) ∧ w_ = w1_ ++ [zAl 1 1 (vp_updL o_ 0 (cvV v_))]) ∨ (∃ E_ w1_, (fun E w => E = eNSE ∧ True ∧ w = xH P t fp) E_ w1_ ∧ r_ = some (zi (nI 1)) ∧ w_ = w1_ ++ [zAl 1 1 o_])) zNx := by
  refine z_startWD (by decide) [some (zr 1 0), some (zi s), some (zi a), some (zr 22 0), none] rfl (fun _ => Nat.le_of_ble_eq_true rfl) (fun _ => rfl) (fun X hD F E hT hin => ?_)
  subst hD
  have hH : ∀ (k0 n0 : Nat), k0 ≤ 1 → n0 ≤ 6 → (True) → Z X [some (zr 1 0), some (zi s), some (zi a), some (zr 22 0), none] [zr 23 0] (xH P t fp ++ [zAl 1 1 o_]) k0 n0 13 := by
    intro k0 n0  hk0 hn0 h_2
    refine z_astore F dX0_tell_13 (Nat.le_of_ble_eq_true rfl) ?_
    refine z_leq (L' := [_, _, _, _, _]) rfl ?_
    refine z_iconst F (nI 1) dX0_tell_15 rfl ?_
    exact z_iret F E rfl dX0_tell_16 (by omega) (by omega) (Or.inr ⟨_, _, ⟨rfl, h_2, rfl⟩, rfl, rfl⟩)
  refine z_aload_n F dX0_tell_0 rfl ?_
  refine z_iconst F (nI 0) dX0_tell_1 rfl ?_
  refine z_aload_n F dX0_tell_2 rfl ?_
  refine z_iload_n F dX0_tell_3 rfl ?_
  refine z_iload_n F dX0_tell_4 rfl ?_
  refine z_callV F (c_ptell_no P t fp s a hs) 2 rfl (lw_V q1420 q1421 q1422 q109 q1423) (by decide +kernel) ⟨Nat.le_of_ble_eq_true rfl, Nat.le_of_ble_eq_true rfl⟩ ⟨by omega, by omega⟩ [0, 1, 2, 3, 4, 5, 6, 7, 8, 9, 10, 11, 12, 13, 14, 15, 16, 17, 18, 19, 20, 21] 23 ⟨rfl, rfl, rfl, ⟨Or.inr (congrArg some (zrnP rfl).symm), Or.inr rfl, Or.inl rfl, Or.inl rfl, Or.inl rfl, Or.inl rfl, Or.inl rfl, Or.inl rfl, Or.inl rfl, Or.inl rfl, Or.inl rfl, Or.inl rfl, Or.inl rfl, Or.inl rfl, Or.inl rfl, Or.inl rfl, Or.inl rfl, Or.inl rfl, Or.inl rfl, Or.inl rfl, Or.inl rfl, Or.inl rfl, trivial⟩⟩ (fun _ => rfl) (Nat.le_of_ble_eq_true rfl) ⟨⟨Or.inl rfl, Or.inl rfl, Or.inr trivial, Or.inr trivial, Or.inr trivial, Or.inr trivial, Or.inr trivial, Or.inr trivial, Or.inr trivial, Or.inr trivial, Or.inr trivial, Or.inr trivial, Or.inr trivial, Or.inr trivial, Or.inr trivial, Or.inr trivial, Or.inr trivial, Or.inr trivial, Or.inr trivial, Or.inr trivial, Or.inr trivial, Or.inr trivial, Or.inr trivial, trivial⟩, rfl, rfl, rfl, Nat.le_of_ble_eq_true rfl⟩ rfl zC1 rfl rfl dX0_tell_5 (fun r_5 w_5 hp => ?_) (fun E_ w_ hx => by obtain ⟨rfl, h_2, rfl⟩ := hx; exact zx_catch F hT [] ⟨0, 10, 13, 13⟩ [] rfl (fun _ h => nomatch h) (by decide) (by decide) lw_nse (z_weq (w' := zPl (pR _) _ :: _) (congrArg (fun z => z :: _) (zrnP rfl)) (hH _ _  (by omega) (by omega) h_2)))
  exact hp.elim
theorem cw_pgrow_no (Dg : va_G) (P : zPt) (t : Nat) (fp : Int32) (s a : Int32) (hs : ∀ j, j < 8 → s = nI j → P j = none) (o_ : Nat → Int64) : zCtrWD Dg yX0_grow cX0_grow 5 (some .int) [(0, 10, 13, 13), (0, 10, 17, 22)] 9 1 6 [zr 1 0, zi s, zi a, zr 22 0] ((xH P t fp) ++ [zAl 1 1 o_]) (fun r_ w_ => (∃ v_ w1_, (fun r w => False) (some v_) w1_ ∧ r_ = some (zi (nI 0)) ∧ w_ = w1_ ++ [zAl 1 1 (vp_updL o_ 0 (cvV v_))]) ∨ (∃ E_ w1_, (fun E w => E = eNSE ∧ True ∧ w = xH P t fp) E_ w1_ ∧ r_ = some (zi (nI 1)) ∧ w_ = w1_ ++ [zAl 1 1 o_])) zNx := by
  refine z_startWD (by decide) [some (zr 1 0), some (zi s), some (zi a), some (zr 22 0), none] rfl (fun _ => Nat.le_of_ble_eq_true rfl) (fun _ => rfl) (fun X hD F E hT hin => ?_)
  subst hD
  have hH : ∀ (k0 n0 : Nat), k0 ≤ 1 → n0 ≤ 6 → (True) → Z X [some (zr 1 0), some (zi s), some (zi a), some (zr 22 0), none] [zr 23 0] (xH P t fp ++ [zAl 1 1 o_]) k0 n0 13 := by
    intro k0 n0  hk0 hn0 h_2
    refine z_astore F dX0_grow_13 (Nat.le_of_ble_eq_true rfl) ?_
    refine z_leq (L' := [_, _, _, _, _]) rfl ?_
    refine z_iconst F (nI 1) dX0_grow_15 rfl ?_
    exact z_iret F E rfl dX0_grow_16 (by omega) (by omega) (Or.inr ⟨_, _, ⟨rfl, h_2, rfl⟩, rfl, rfl⟩)
  refine z_aload_n F dX0_grow_0 rfl ?_
  refine z_iconst F (nI 0) dX0_grow_1 rfl ?_
  refine z_aload_n F dX0_grow_2 rfl ?_
  refine z_iload_n F dX0_grow_3 rfl ?_
  refine z_iload_n F dX0_grow_4 rfl ?_
  refine z_callV F (c_pgrow_no P t fp s a hs) 2 rfl (lw_V q1452 q1453 q1454 q109 q1455) (by decide +kernel) ⟨Nat.le_of_ble_eq_true rfl, Nat.le_of_ble_eq_true rfl⟩ ⟨by omega, by omega⟩ [0, 1, 2, 3, 4, 5, 6, 7, 8, 9, 10, 11, 12, 13, 14, 15, 16, 17, 18, 19, 20, 21] 23 ⟨rfl, rfl, rfl, ⟨Or.inr (congrArg some (zrnP rfl).symm), Or.inr rfl, Or.inl rfl, Or.inl rfl, Or.inl rfl, Or.inl rfl, Or.inl rfl, Or.inl rfl, Or.inl rfl, Or.inl rfl, Or.inl rfl, Or.inl rfl, Or.inl rfl, Or.inl rfl, Or.inl rfl, Or.inl rfl, Or.inl rfl, Or.inl rfl, Or.inl rfl, Or.inl rfl, Or.inl rfl, Or.inl rfl, trivial⟩⟩ (fun _ => rfl) (Nat.le_of_ble_eq_true rfl) ⟨⟨Or.inl rfl, Or.inl rfl, Or.inr trivial, Or.inr trivial, Or.inr trivial, Or.inr trivial, Or.inr trivial, Or.inr trivial, Or.inr trivial, Or.inr trivial, Or.inr trivial, Or.inr trivial, Or.inr trivial, Or.inr trivial, Or.inr trivial, Or.inr trivial, Or.inr trivial, Or.inr trivial, Or.inr trivial, Or.inr trivial, Or.inr trivial, Or.inr trivial, Or.inr trivial, trivial⟩, rfl, rfl, rfl, Nat.le_of_ble_eq_true rfl⟩ rfl zC1 rfl rfl dX0_grow_5 (fun r_5 w_5 hp => ?_) (fun E_ w_ hx => by obtain ⟨rfl, h_2, rfl⟩ := hx; exact zx_catch F hT [] ⟨0, 10, 13, 13⟩ [⟨0, 10, 17, 22⟩] rfl (fun _ h => nomatch h) (by decide) (by decide) lw_nse (z_weq (w' := zPl (pR _) _ :: _) (congrArg (fun z => z :: _) (zrnP rfl)) (hH _ _  (by omega) (by omega) h_2)))
  exact hp.elim
theorem cw_pmissing_no (Dg : va_G) (P : zPt) (t : Nat) (fp : Int32) (s : Int32) (hs : ∀ j, j < 8 → s = nI j → P j = none) (o_ : Nat → Int64) : zCtrWD Dg yX0_missing cX0_missing 4 (some .int) [(0, 9, 12, 13)] 9 1 6 [zr 1 0, zi s, zr 22 0] ((xH P t fp) ++ [zAl 1 1 o_]) (fun r_ w_ => (∃ v_ w1_, (fun r w => False) (some v_) w1_ ∧ r_ = some (zi (nI 0)) ∧ w_ = w1_ ++ [zAl 1 1 (vp_updL o_ 0 (cvV v_))]) ∨ (∃ E_ w1_, (fun E w => E = eNSE ∧ True ∧ w = xH P t fp) E_ w1_ ∧ r_ = some (zi (nI 1)) ∧ w_ = w1_ ++ [zAl 1 1 o_])) zNx := by
  refine z_startWD (by decide) [some (zr 1 0), some (zi s), some (zr 22 0), none] rfl (fun _ => Nat.le_of_ble_eq_true rfl) (fun _ => rfl) (fun X hD F E hT hin => ?_)
  subst hD
  have hH : ∀ (k0 n0 : Nat), k0 ≤ 1 → n0 ≤ 6 → (True) → Z X [some (zr 1 0), some (zi s), some (zr 22 0), none] [zr 23 0] (xH P t fp ++ [zAl 1 1 o_]) k0 n0 12 := by
    intro k0 n0  hk0 hn0 h_2
    refine z_astore_n F dX0_missing_12 (Nat.le_of_ble_eq_true rfl) ?_
    refine z_leq (L' := [_, _, _, _]) rfl ?_
    refine z_iconst F (nI 1) dX0_missing_13 rfl ?_
    exact z_iret F E rfl dX0_missing_14 (by omega) (by omega) (Or.inr ⟨_, _, ⟨rfl, h_2, rfl⟩, rfl, rfl⟩)
  refine z_aload_n F dX0_missing_0 rfl ?_
  refine z_iconst F (nI 0) dX0_missing_1 rfl ?_
  refine z_aload_n F dX0_missing_2 rfl ?_
  refine z_iload_n F dX0_missing_3 rfl ?_
  refine z_callV F (c_pmissing_no P t fp s hs) 1 rfl (lw_V q1462 q1463 q1464 q109 q1465) (by decide +kernel) ⟨Nat.le_of_ble_eq_true rfl, Nat.le_of_ble_eq_true rfl⟩ ⟨by omega, by omega⟩ [0, 1, 2, 3, 4, 5, 6, 7, 8, 9, 10, 11, 12, 13, 14, 15, 16, 17, 18, 19, 20, 21] 23 ⟨rfl, rfl, rfl, ⟨Or.inr (congrArg some (zrnP rfl).symm), Or.inr rfl, Or.inl rfl, Or.inl rfl, Or.inl rfl, Or.inl rfl, Or.inl rfl, Or.inl rfl, Or.inl rfl, Or.inl rfl, Or.inl rfl, Or.inl rfl, Or.inl rfl, Or.inl rfl, Or.inl rfl, Or.inl rfl, Or.inl rfl, Or.inl rfl, Or.inl rfl, Or.inl rfl, Or.inl rfl, Or.inl rfl, trivial⟩⟩ (fun _ => rfl) (Nat.le_of_ble_eq_true rfl) ⟨⟨Or.inl rfl, Or.inl rfl, Or.inr trivial, Or.inr trivial, Or.inr trivial, Or.inr trivial, Or.inr trivial, Or.inr trivial, Or.inr trivial, Or.inr trivial, Or.inr trivial, Or.inr trivial, Or.inr trivial, Or.inr trivial, Or.inr trivial, Or.inr trivial, Or.inr trivial, Or.inr trivial, Or.inr trivial, Or.inr trivial, Or.inr trivial, Or.inr trivial, Or.inr trivial, trivial⟩, rfl, rfl, rfl, Nat.le_of_ble_eq_true rfl⟩ rfl zC1 rfl rfl dX0_missing_4 (fun r_4 w_4 hp => ?_) (fun E_ w_ hx => by obtain ⟨rfl, h_2, rfl⟩ := hx; exact zx_catch F hT [] ⟨0, 9, 12, 13⟩ [] rfl (fun _ h => nomatch h) (by decide) (by decide) lw_nse (z_weq (w' := zPl (pR _) _ :: _) (congrArg (fun z => z :: _) (zrnP rfl)) (hH _ _  (by omega) (by omega) h_2)))
  exact hp.elim
theorem cw_plocks_no (Dg : va_G) (P : zPt) (t : Nat) (fp : Int32) (s : Int32) (hs : ∀ j, j < 8 → s = nI j → P j = none) (o_ : Nat → Int64) : zCtrWD Dg yX0_locks cX0_locks 4 (some .int) [(0, 16, 19, 13)] 9 3 60 [zr 1 0, zi s, zr 22 0] ((xH P t fp) ++ [zAl 1 1 o_]) (fun r_ w_ => (∃ v_ w1_, (fun r w => False) (some v_) w1_ ∧ r_ = some (zi (nI 0)) ∧ w_ = w1_ ++ [zAl 1 1 (vp_updL o_ 0 (cvV v_))]) ∨ (∃ E_ w1_, (fun E w => E = eNSE ∧ True ∧ w = xH P t fp) E_ w1_ ∧ r_ = some (zi (nI 1)) ∧ w_ = w1_ ++ [zAl 1 1 o_])) zNx := by
  refine z_startWD (by decide) [some (zr 1 0), some (zi s), some (zr 22 0), none] rfl (fun _ => Nat.le_of_ble_eq_true rfl) (fun _ => rfl) (fun X hD F E hT hin => ?_)
  subst hD
  have hH : ∀ (k0 n0 : Nat), k0 ≤ 3 → n0 ≤ 60 → (True) → Z X [some (zr 1 0), some (zi s), some (zr 22 0), none] [zr 23 0] (xH P t fp ++ [zAl 1 1 o_]) k0 n0 19 := by
    intro k0 n0  hk0 hn0 h_2
    refine z_astore_n F dX0_locks_19 (Nat.le_of_ble_eq_true rfl) ?_
    refine z_leq (L' := [_, _, _, _]) rfl ?_
    refine z_iconst F (nI 1) dX0_locks_20 rfl ?_
    exact z_iret F E rfl dX0_locks_21 (by omega) (by omega) (Or.inr ⟨_, _, ⟨rfl, h_2, rfl⟩, rfl, rfl⟩)
  refine z_aload_n F dX0_locks_0 rfl ?_
  refine z_iconst F (nI 0) dX0_locks_1 rfl ?_
  refine z_aload_n F dX0_locks_2 rfl ?_
  refine z_iload_n F dX0_locks_3 rfl ?_
  refine z_callV F (c_plocks_no P t fp s hs) 1 rfl (lw_V q1351 q1352 q1353 q109 q1354) (by decide +kernel) ⟨Nat.le_of_ble_eq_true rfl, Nat.le_of_ble_eq_true rfl⟩ ⟨by omega, by omega⟩ [0, 1, 2, 3, 4, 5, 6, 7, 8, 9, 10, 11, 12, 13, 14, 15, 16, 17, 18, 19, 20, 21] 23 ⟨rfl, rfl, rfl, ⟨Or.inr (congrArg some (zrnP rfl).symm), Or.inr rfl, Or.inl rfl, Or.inl rfl, Or.inl rfl, Or.inl rfl, Or.inl rfl, Or.inl rfl, Or.inl rfl, Or.inl rfl, Or.inl rfl, Or.inl rfl, Or.inl rfl, Or.inl rfl, Or.inl rfl, Or.inl rfl, Or.inl rfl, Or.inl rfl, Or.inl rfl, Or.inl rfl, Or.inl rfl, Or.inl rfl, trivial⟩⟩ (fun _ => rfl) (Nat.le_of_ble_eq_true rfl) ⟨⟨Or.inl rfl, Or.inl rfl, Or.inr trivial, Or.inr trivial, Or.inr trivial, Or.inr trivial, Or.inr trivial, Or.inr trivial, Or.inr trivial, Or.inr trivial, Or.inr trivial, Or.inr trivial, Or.inr trivial, Or.inr trivial, Or.inr trivial, Or.inr trivial, Or.inr trivial, Or.inr trivial, Or.inr trivial, Or.inr trivial, Or.inr trivial, Or.inr trivial, Or.inr trivial, trivial⟩, rfl, rfl, rfl, Nat.le_of_ble_eq_true rfl⟩ rfl zC1 rfl rfl dX0_locks_4 (fun r_4 w_4 hp => ?_) (fun E_ w_ hx => by obtain ⟨rfl, h_2, rfl⟩ := hx; exact zx_catch F hT [] ⟨0, 16, 19, 13⟩ [] rfl (fun _ h => nomatch h) (by decide) (by decide) lw_nse (z_weq (w' := zPl (pR _) _ :: _) (congrArg (fun z => z :: _) (zrnP rfl)) (hH _ _  (by omega) (by omega) h_2)))
  exact hp.elim
end CB1
