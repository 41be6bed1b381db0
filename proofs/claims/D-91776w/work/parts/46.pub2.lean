/-! WiredNets: asked of one net -/
section C46
abbrev xFl (P : zPt) (t : Nat) (fp sn0 g0 sm0 : Int32) (D : Nat → Int32) : List zE := [zPl (pR P) P, xO t fp, zH, eFl 4 sn0 g0 sm0, zAi 0 24 D, zH, zH, zH, zH, zH, zH, zH, zH, zH, zH, zH, zH, zH, zH, zH, zH, zH]
theorem c_pdist (P : zPt) (t : Nat) (fp sn0 g0 sm0 : Int32) (D : Nat → Int32) (j n d : Nat) (f : Nat → Int32) (a b : Int32) (hj : j < 8) (h1 : 1 ≤ n) (h24 : n ≤ 24) (hP : P j = some (nI n, nI d, f)) : zCtr yX1_distance cX1_distance 5 (some .int) 8 3 18 [zr 1 0, zi (nI j), zi a, zi b] (xFl P t fp sn0 g0 sm0 D) (fun r w => ∃ a' b', a' < n ∧ b' < n ∧ a = nI a' ∧ b = nI b' ∧ r = some (zi (dI (dst n f (allB n) a' b'))) ∧ ∃ sn1 g1 sm1 D1, w = xFl P t fp sn1 g1 sm1 D1) (fun E w => E = eNSE ∧ (knB n a && knB n b) = false ∧ w = xFl P t fp sn0 g0 sm0 D) := by
  refine z_start (by decide) [some (zr 1 0), some (zi (nI j)), some (zi a), some (zi b), none] rfl (fun _ => Nat.le_of_ble_eq_true rfl) (fun _ => rfl) (fun X F E hno hin => ?_)
  refine z_aload_n F dX1_distance_0 rfl ?_
  refine z_iload_n F dX1_distance_1 rfl ?_
  refine z_callV F (c_netAt_ok P t fp j hj hP) 1 rfl (lw_V q429 q431 qs0 q109 q432) (by decide +kernel) ⟨Nat.le_of_ble_eq_true rfl, Nat.le_of_ble_eq_true rfl⟩ ⟨by omega, by omega⟩ [0, 1, 2, 3, 4, 5, 6, 7, 8, 9, 10, 11, 12, 13, 14, 15, 16, 17, 18, 19, 20, 21] 22 ⟨rfl, rfl, rfl, ⟨Or.inr (congrArg some (zrnP rfl).symm), Or.inr rfl, Or.inl rfl, Or.inl rfl, Or.inl rfl, Or.inl rfl, Or.inl rfl, Or.inl rfl, Or.inl rfl, Or.inl rfl, Or.inl rfl, Or.inl rfl, Or.inl rfl, Or.inl rfl, Or.inl rfl, Or.inl rfl, Or.inl rfl, Or.inl rfl, Or.inl rfl, Or.inl rfl, Or.inl rfl, Or.inl rfl, trivial⟩⟩ (fun _ => rfl) (Nat.le_of_ble_eq_true rfl) ⟨⟨Or.inl rfl, Or.inl rfl, Or.inr trivial, Or.inr rfl, Or.inr trivial, Or.inr trivial, Or.inr trivial, Or.inr trivial, Or.inr trivial, Or.inr trivial, Or.inr trivial, Or.inr trivial, Or.inr trivial, Or.inr trivial, Or.inr trivial, Or.inr trivial, Or.inr trivial, Or.inr trivial, Or.inr trivial, Or.inr trivial, Or.inr trivial, Or.inr trivial, trivial⟩, rfl, rfl, rfl, Nat.le_of_ble_eq_true rfl⟩ rfl zC1 rfl rfl dX1_distance_2 (fun r_2 w_2 hp => ?_) (fun _ _ h => h.elim)
  obtain ⟨rfl, rfl⟩ := hp
  refine z_weq (w' := zPl (pR _) _ :: _) (congrArg (fun z => z :: _) (zrnP rfl)) ?_
  refine z_weq (w' := [zPl _ _, zO _ [zr _ _, zr _ _, zr _ _, zr _ _, zr _ _, zi _, zi _, zr _ _, zr _ _], zH, zO _ [zr _ _, zi _, zi _, zi _], zAi 0 24 _, zH, zH, zH, zH, zH, zH, zH, zH, zH, zH, zH, zH, zH, zH, zH, zH, zH]) rfl ?_
  refine z_seq (S' := zr _ _ :: _) rfl ?_
  refine z_astore F dX1_distance_5 (Nat.le_of_ble_eq_true rfl) ?_
  refine z_leq (L' := [_, _, _, _, _]) rfl ?_
  refine z_foc F j hj hP (N := 22) (M := 23) (L' := [_, _, _, _, some (zr 22 0)]) (S' := []) rfl rfl (Nat.le_of_ble_eq_true rfl) ⟨rfl, trivial, rfl, trivial, trivial, trivial, trivial, trivial, trivial, trivial, trivial, trivial, trivial, trivial, trivial, trivial, trivial, trivial, trivial, trivial, trivial, trivial⟩ ⟨Or.inl rfl, Or.inl rfl, Or.inl rfl, Or.inl rfl, Or.inr ⟨rfl, rfl⟩, trivial⟩ rfl trivial rfl ?_
  refine z_weq (w' := [zPl _ _, zO _ [zr _ _, zr _ _, zr _ _, zr _ _, zr _ _, zi _, zi _, zr _ _, zr _ _], zH, zO _ [zr _ _, zi _, zi _, zi _], zAi 0 24 _, zH, zH, zH, zH, zH, zH, zH, zH, zH, zH, zH, zH, zH, zH, zH, zH, zH, zO _ [zi _, zi _, zr _ _], zAi 0 24 _]) rfl ?_
  refine z_aload F dX1_distance_7 rfl ?_
  refine z_iload_n F dX1_distance_9 rfl ?_
  refine z_callS F (c_knot n (nI d) a h1 h24) 2 rfl (lw_S q500 q501 q109 q502) (by decide +kernel) ⟨Nat.le_of_ble_eq_true rfl, Nat.le_of_ble_eq_true rfl⟩ ⟨by omega, by omega⟩ [0, 22, 23] 24 ⟨rfl, rfl, rfl, ⟨Or.inl rfl, Or.inr rfl, Or.inl rfl, trivial⟩⟩ (fun h => nomatch h) (Nat.le_of_ble_eq_true rfl) ⟨⟨Or.inr (by first | exact ⟨rfl, pR_B _ (by decide)⟩ | exact ⟨rfl, uR_B (by decide) (by decide)⟩), Or.inr rfl, Or.inr trivial, Or.inr rfl, Or.inr trivial, Or.inr trivial, Or.inr trivial, Or.inr trivial, Or.inr trivial, Or.inr trivial, Or.inr trivial, Or.inr trivial, Or.inr trivial, Or.inr trivial, Or.inr trivial, Or.inr trivial, Or.inr trivial, Or.inr trivial, Or.inr trivial, Or.inr trivial, Or.inr trivial, Or.inr trivial, Or.inl rfl, Or.inr trivial, trivial⟩, rfl, rfl, rfl, Nat.le_of_ble_eq_true rfl⟩ rfl rfl dX1_distance_10 (fun r_10 w_10 hp => ?_) (fun E_ w_ hx => by obtain ⟨rfl, hb, rfl⟩ := hx; exact zx_pub F rfl E hno j 22 23 hj hP rfl rfl (Nat.le_of_ble_eq_true rfl) (Nat.le_of_ble_eq_true rfl) (Nat.le_of_ble_eq_true rfl) _ rfl ⟨rfl, trivial, rfl, trivial, trivial, trivial, trivial, trivial, trivial, trivial, trivial, trivial, trivial, trivial, trivial, trivial, trivial, trivial, trivial, trivial, trivial, trivial⟩ (Nat.le_of_ble_eq_true rfl) (by omega) (by omega) (⟨rfl, by rw [hb]; rfl, rfl⟩))
  obtain ⟨rfl, hb, rfl⟩ := hp
  obtain ⟨a', ha, rfl⟩ := knB_of h24 hb
  refine z_weq (w' := [zPl _ _, zO _ [zr _ _, zr _ _, zr _ _, zr _ _, zr _ _, zi _, zi _, zr _ _, zr _ _], zH, zO _ [zr _ _, zi _, zi _, zi _], zAi 0 24 _, zH, zH, zH, zH, zH, zH, zH, zH, zH, zH, zH, zH, zH, zH, zH, zH, zH, zO _ [zi _, zi _, zr _ _], zAi 0 24 _]) rfl ?_
  refine z_seq (S' := []) rfl ?_
  refine z_aload F dX1_distance_13 rfl ?_
  refine z_iload_n F dX1_distance_15 rfl ?_
  refine z_callS F (c_knot n (nI d) b h1 h24) 2 rfl (lw_S q500 q501 q109 q502) (by decide +kernel) ⟨Nat.le_of_ble_eq_true rfl, Nat.le_of_ble_eq_true rfl⟩ ⟨by omega, by omega⟩ [0, 22, 23] 24 ⟨rfl, rfl, rfl, ⟨Or.inl rfl, Or.inr rfl, Or.inl rfl, trivial⟩⟩ (fun h => nomatch h) (Nat.le_of_ble_eq_true rfl) ⟨⟨Or.inr (by first | exact ⟨rfl, pR_B _ (by decide)⟩ | exact ⟨rfl, uR_B (by decide) (by decide)⟩), Or.inr rfl, Or.inr trivial, Or.inr rfl, Or.inr trivial, Or.inr trivial, Or.inr trivial, Or.inr trivial, Or.inr trivial, Or.inr trivial, Or.inr trivial, Or.inr trivial, Or.inr trivial, Or.inr trivial, Or.inr trivial, Or.inr trivial, Or.inr trivial, Or.inr trivial, Or.inr trivial, Or.inr trivial, Or.inr trivial, Or.inr trivial, Or.inl rfl, Or.inr trivial, trivial⟩, rfl, rfl, rfl, Nat.le_of_ble_eq_true rfl⟩ rfl rfl dX1_distance_16 (fun r_16 w_16 hp => ?_) (fun E_ w_ hx => by obtain ⟨rfl, hb, rfl⟩ := hx; exact zx_pub F rfl E hno j 22 23 hj hP rfl rfl (Nat.le_of_ble_eq_true rfl) (Nat.le_of_ble_eq_true rfl) (Nat.le_of_ble_eq_true rfl) _ rfl ⟨rfl, trivial, rfl, trivial, trivial, trivial, trivial, trivial, trivial, trivial, trivial, trivial, trivial, trivial, trivial, trivial, trivial, trivial, trivial, trivial, trivial, trivial⟩ (Nat.le_of_ble_eq_true rfl) (by omega) (by omega) (⟨rfl, by rw [hb, Bool.and_false], rfl⟩))
  obtain ⟨rfl, hb, rfl⟩ := hp
  obtain ⟨b', hb', rfl⟩ := knB_of h24 hb
  refine z_weq (w' := [zPl _ _, zO _ [zr _ _, zr _ _, zr _ _, zr _ _, zr _ _, zi _, zi _, zr _ _, zr _ _], zH, zO _ [zr _ _, zi _, zi _, zi _], zAi 0 24 _, zH, zH, zH, zH, zH, zH, zH, zH, zH, zH, zH, zH, zH, zH, zH, zH, zH, zO _ [zi _, zi _, zr _ _], zAi 0 24 _]) rfl ?_
  refine z_seq (S' := []) rfl ?_
  refine z_aload_n F dX1_distance_19 rfl ?_
  refine z_get F zC1 (f := 2) rfl (Nat.le_of_ble_eq_true rfl) q316 rfl dX1_distance_20 ?_
  refine z_aload F dX1_distance_23 rfl ?_
  refine z_iload_n F dX1_distance_25 rfl ?_
  refine z_iload_n F dX1_distance_26 rfl ?_
  refine z_callV F (c_distance n a' b' (nI d) f _ _ _ _ h24 ha hb') 3 rfl (lw_V q795 q796 q797 q110 q798) (by decide +kernel) ⟨Nat.le_of_ble_eq_true rfl, Nat.le_of_ble_eq_true rfl⟩ ⟨by omega, by omega⟩ [0, 3, 4, 22, 23] 24 ⟨rfl, rfl, rfl, ⟨Or.inl rfl, Or.inr rfl, Or.inr rfl, Or.inr rfl, Or.inr rfl, trivial⟩⟩ (fun h => nomatch h) (Nat.le_of_ble_eq_true rfl) ⟨⟨Or.inr (by first | exact ⟨rfl, pR_B _ (by decide)⟩ | exact ⟨rfl, uR_B (by decide) (by decide)⟩), Or.inr rfl, Or.inr trivial, Or.inl rfl, Or.inl rfl, Or.inr trivial, Or.inr trivial, Or.inr trivial, Or.inr trivial, Or.inr trivial, Or.inr trivial, Or.inr trivial, Or.inr trivial, Or.inr trivial, Or.inr trivial, Or.inr trivial, Or.inr trivial, Or.inr trivial, Or.inr trivial, Or.inr trivial, Or.inr trivial, Or.inr trivial, Or.inl rfl, Or.inl rfl, trivial⟩, rfl, rfl, rfl, Nat.le_of_ble_eq_true rfl⟩ rfl zC2 rfl rfl dX1_distance_27 (fun r_27 w_27 hp => ?_) (fun _ _ h => h.elim)
  obtain ⟨rfl, sn1, g1, sm1, D1, rfl⟩ := hp
  refine z_weq (w' := [zPl _ _, zO _ [zr _ _, zr _ _, zr _ _, zr _ _, zr _ _, zi _, zi _, zr _ _, zr _ _], zH, zO _ [zr _ _, zi _, zi _, zi _], zAi 0 24 _, zH, zH, zH, zH, zH, zH, zH, zH, zH, zH, zH, zH, zH, zH, zH, zH, zH, zO _ [zi _, zi _, zr _ _], zAi 0 24 _]) rfl ?_
  refine z_seq (S' := zi _ :: _) rfl ?_
  refine z_loc [some _, some _, some _, some _, none] ⟨rfl, rfl, rfl, rfl, trivial⟩ ?_
  refine z_unfocus F rfl j 22 23 22 hj zput_self rfl rfl (Nat.le_of_ble_eq_true rfl) (Nat.le_of_ble_eq_true rfl) (Nat.le_of_ble_eq_true rfl) (Nat.le_of_ble_eq_true rfl) [zO _ [zr _ _, zr _ _, zr _ _, zr _ _, zr _ _, zi _, zi _, zr _ _, zr _ _], zH, zO _ [zr _ _, zi _, zi _, zi _], zAi 0 24 _, zH, zH, zH, zH, zH, zH, zH, zH, zH, zH, zH, zH, zH, zH, zH, zH, zH] rfl ⟨rfl, trivial, rfl, trivial, trivial, trivial, trivial, trivial, trivial, trivial, trivial, trivial, trivial, trivial, trivial, trivial, trivial, trivial, trivial, trivial, trivial, trivial⟩ uOK rfl rfl ?_
  refine z_weq (w' := zPl (pR (zput P j (some _))) (zput P j (some _)) :: _) (congrArg (fun z => z :: _) uPl2) ?_
  exact z_iret F E rfl dX1_distance_30 (by omega) (by omega) (⟨a', b', ha, hb', rfl, rfl, rfl, sn1, g1, sm1, D1, by rw [zput_some hP]; rfl⟩)
theorem inB_len {N : Nat} (hN : N < 2 ^ 31) {x : Int32} (h : inB x (nI 0) (nI N - 1) = true) : ∃ i, i < N ∧ x = nI i := by
  cases N with
  | zero =>
    unfold inB at h
    simp only [decide_eq_true_eq] at h
    exfalso
    obtain ⟨h1, h2⟩ := h
    rw [Int32.lt_iff_toInt_lt] at h1 h2
    have e1 : (nI 0).toInt = 0 := rfl
    have e2 : (nI 0 - 1).toInt = -1 := rfl
    rw [e1] at h1; rw [e2] at h2
    omega
  | succ N =>
    have e : nI (N + 1) - 1 = nI N := by
      have := pk_sub (a := N + 1) (b := 1) (by omega)
      exact this
    rw [e] at h
    obtain ⟨k, -, h2, rfl⟩ := inB_of (by omega) (by omega) h
    exact ⟨k, by omega, rfl⟩
theorem inB_len2 {N i : Nat} (hN : N < 2 ^ 31) (h : i < N) : inB (nI i) (nI 0) (nI N - 1) = true := by
  cases N with
  | zero => omega
  | succ N =>
    have e : nI (N + 1) - 1 = nI N := by
      have := pk_sub (a := N + 1) (b := 1) (by omega)
      exact this
    rw [e]
    exact inB_n (by omega) (by omega) (by omega)
def mnD (f : Nat → Int32) : Nat → Nat
  | 0 => 24
  | k + 1 => min (mnD f k) (pc32 (f k))
def mxD (f : Nat → Int32) : Nat → Nat
  | 0 => 0
  | k + 1 => max (mxD f k) (pc32 (f k))
theorem mnD_le (f : Nat → Int32) : ∀ k, mnD f k ≤ 24
  | 0 => Nat.le_refl _
  | k + 1 => by have := mnD_le f k; unfold mnD; omega
theorem mxD_le (f : Nat → Int32) : ∀ k, mxD f k ≤ 32
  | 0 => Nat.zero_le _
  | k + 1 => by have := mxD_le f k; have := pc32_le (f k); unfold mxD; omega
def abD (n d : Nat) (f : Nat → Int32) (x : Nat) : Nat := if x = 0 then n else if x = 1 then d else if x = 2 then (prs n f).length else if x = 3 then mnD f n else mxD f n
theorem c_pabout (P : zPt) (t : Nat) (fp : Int32) (j n d : Nat) (f : Nat → Int32) (x : Int32) (hj : j < 8) (h : nok n d f) (hP : P j = some (nI n, nI d, f)) : zCtr yX1_about cX1_about 6 (some .int) 8 2 12 [zr 1 0, zi (nI j), zi x] (xH P t fp) (fun r w => ∃ x', x' < 5 ∧ x = nI x' ∧ r = some (zi (nI (abD n d f x'))) ∧ w = xH P t fp) (fun E w => E = eNSE ∧ inB x (nI 0) (nI 4) = false ∧ w = xH P t fp) := by
  refine z_start (by decide) [some (zr 1 0), some (zi (nI j)), some (zi x), none, none, none] rfl (fun _ => Nat.le_of_ble_eq_true rfl) (fun _ => rfl) (fun X F E hno hin => ?_)
  have h1 := h.n1
  have h24 := h.n24
  have hd8 := h.d8
  have hl := prs_len h.sy
  have h96 := prs_96 h
  have hp0 : pc32 (f 0) ≤ 8 := Nat.le_trans (h.deg (by omega)) h.d8
  have loop : ∀ (x' : Nat), x' < 5 → x = nI x' → ∀ (m k v : Nat), n - k < m → 1 ≤ k → k ≤ n → v ≤ 32 → ((x' = 3 ∧ v = mnD f k) ∨ (x' = 4 ∧ v = mxD f k)) → Z X [some (zr 1 0), some (zi (nI j)), some (zi (nI x')), some (zr 22 0), some (zi (nI v)), some (zi (nI k))] [] [zPl (zput (pR P) j (zr 22 0)) (zput P j none), xO t fp, zH, zH, zH, zH, zH, zH, zH, zH, zH, zH, zH, zH, zH, zH, zH, zH, zH, zH, zH, zH, zO 5 [zi (nI n), zi (nI d), zr 23 0], zAi 0 24 f] 2 12 58 := by
    intro x' hx hxx m
    induction m with
    | zero => intro k v hm; omega
    | succ m ih =>
      intro k v hm hk1 hk hv hh
      have hpk := pc32_le (f k)
      refine z_iload F dX1_about_58 rfl ?_
      refine z_aload_n F dX1_about_60 rfl ?_
      refine z_getN F zC5 (f := 0) rfl (Nat.le_of_ble_eq_true rfl) q245 rfl dX1_about_61 ?_
      refine z_icmp_geN F (by omega) (by omega) (tgt := 105) dX1_about_64 (by decide) (fun c_64 => ?_) (fun c_64 => ?_)
      · have ek : k = n := by omega
        subst ek
        refine z_iload F dX1_about_105 rfl ?_
        refine z_loc [some _, some _, some _, none, some _, some _] ⟨rfl, rfl, rfl, rfl, rfl, trivial⟩ ?_
        refine z_unfocus F rfl j 22 23 22 hj zput_self rfl rfl (Nat.le_of_ble_eq_true rfl) (Nat.le_of_ble_eq_true rfl) (Nat.le_of_ble_eq_true rfl) (Nat.le_of_ble_eq_true rfl) [zO _ [zr _ _, zr _ _, zr _ _, zr _ _, zr _ _, zi _, zi _, zr _ _, zr _ _], zH, zH, zH, zH, zH, zH, zH, zH, zH, zH, zH, zH, zH, zH, zH, zH, zH, zH, zH, zH] rfl ⟨rfl, trivial, trivial, trivial, trivial, trivial, trivial, trivial, trivial, trivial, trivial, trivial, trivial, trivial, trivial, trivial, trivial, trivial, trivial, trivial, trivial, trivial⟩ uOK rfl rfl ?_
        refine z_weq (w' := zPl (pR (zput P j (some _))) (zput P j (some _)) :: _) (congrArg (fun z => z :: _) uPl2) ?_
        exact z_iret F E rfl dX1_about_107 (by omega) (by omega) (⟨x', hx, hxx, by rcases hh with ⟨e1, e2⟩ | ⟨e1, e2⟩ <;> subst e1 <;> subst e2 <;> rfl, by rw [zput_some hP]⟩)
      · refine z_iload_n F dX1_about_67 rfl ?_
        refine z_iconst F (nI 3) dX1_about_68 rfl ?_
        refine z_icmp_neN F (by omega) (by omega) (tgt := 86) dX1_about_69 (by decide) (fun c_69 => ?_) (fun c_69 => ?_)
        · refine z_iload F dX1_about_86 rfl ?_
          refine z_aload_n F dX1_about_88 rfl ?_
          refine z_iload F dX1_about_89 rfl ?_
          refine z_callV F (c_lines (nI n) (nI d) f k (by omega)) 1 rfl (lw_V q769 q512 q513 q116 q514) (by decide +kernel) ⟨Nat.le_of_ble_eq_true rfl, Nat.le_of_ble_eq_true rfl⟩ ⟨by omega, by omega⟩ [0, 22, 23] 24 ⟨rfl, rfl, rfl, ⟨Or.inl rfl, Or.inr rfl, Or.inr rfl, trivial⟩⟩ (fun h => nomatch h) (Nat.le_of_ble_eq_true rfl) ⟨⟨Or.inr (by first | exact ⟨rfl, pR_B _ (by decide)⟩ | exact ⟨rfl, uR_B (by decide) (by decide)⟩), Or.inr rfl, Or.inr trivial, Or.inr trivial, Or.inr trivial, Or.inr trivial, Or.inr trivial, Or.inr trivial, Or.inr trivial, Or.inr trivial, Or.inr trivial, Or.inr trivial, Or.inr trivial, Or.inr trivial, Or.inr trivial, Or.inr trivial, Or.inr trivial, Or.inr trivial, Or.inr trivial, Or.inr trivial, Or.inr trivial, Or.inr trivial, Or.inl rfl, Or.inl rfl, trivial⟩, rfl, rfl, rfl, Nat.le_of_ble_eq_true rfl⟩ rfl zC5 rfl rfl dX1_about_91 (fun r_91 w_91 hp => ?_) (fun _ _ h => h.elim)
          obtain ⟨rfl, rfl⟩ := hp
          refine z_weq (w' := [zPl _ _, zO _ [zr _ _, zr _ _, zr _ _, zr _ _, zr _ _, zi _, zi _, zr _ _, zr _ _], zH, zH, zH, zH, zH, zH, zH, zH, zH, zH, zH, zH, zH, zH, zH, zH, zH, zH, zH, zH, zO _ [zi _, zi _, zr _ _], zAi 0 24 _]) rfl ?_
          refine z_seq (S' := zi _ :: _) rfl ?_
          refine z_mmax F q771 dX1_about_94 (Nat.le_of_ble_eq_true rfl) rfl (Nat.le_of_ble_eq_true rfl) ⟨by omega, by omega⟩ ?_
          refine z_ieq (mmaxN (by omega) (by omega)) ?_
          refine z_istore F dX1_about_97 (Nat.le_of_ble_eq_true rfl) ?_
          refine z_leq (L' := [_, _, _, _, _, _]) rfl ?_
          refine z_iincN F 1 dX1_about_99 rfl rfl ?_
          refine z_leq (L' := [_, _, _, _, _, _]) rfl ?_
          refine z_goto F (tgt := 58) dX1_about_102 (by decide) ?_
          refine ih (k + 1) _ (by omega) (by omega) (by omega) (by omega) ?_
          rcases hh with ⟨e1, e2⟩ | ⟨e1, e2⟩
          · first | exact Or.inl ⟨e1, by rw [e2]; rfl⟩ | (exfalso; omega)
          · first | exact Or.inr ⟨e1, by rw [e2]; rfl⟩ | (exfalso; omega)
        · refine z_iload F dX1_about_72 rfl ?_
          refine z_aload_n F dX1_about_74 rfl ?_
          refine z_iload F dX1_about_75 rfl ?_
          refine z_callV F (c_lines (nI n) (nI d) f k (by omega)) 1 rfl (lw_V q769 q512 q513 q116 q514) (by decide +kernel) ⟨Nat.le_of_ble_eq_true rfl, Nat.le_of_ble_eq_true rfl⟩ ⟨by omega, by omega⟩ [0, 22, 23] 24 ⟨rfl, rfl, rfl, ⟨Or.inl rfl, Or.inr rfl, Or.inr rfl, trivial⟩⟩ (fun h => nomatch h) (Nat.le_of_ble_eq_true rfl) ⟨⟨Or.inr (by first | exact ⟨rfl, pR_B _ (by decide)⟩ | exact ⟨rfl, uR_B (by decide) (by decide)⟩), Or.inr rfl, Or.inr trivial, Or.inr trivial, Or.inr trivial, Or.inr trivial, Or.inr trivial, Or.inr trivial, Or.inr trivial, Or.inr trivial, Or.inr trivial, Or.inr trivial, Or.inr trivial, Or.inr trivial, Or.inr trivial, Or.inr trivial, Or.inr trivial, Or.inr trivial, Or.inr trivial, Or.inr trivial, Or.inr trivial, Or.inr trivial, Or.inl rfl, Or.inl rfl, trivial⟩, rfl, rfl, rfl, Nat.le_of_ble_eq_true rfl⟩ rfl zC5 rfl rfl dX1_about_77 (fun r_77 w_77 hp => ?_) (fun _ _ h => h.elim)
          obtain ⟨rfl, rfl⟩ := hp
          refine z_weq (w' := [zPl _ _, zO _ [zr _ _, zr _ _, zr _ _, zr _ _, zr _ _, zi _, zi _, zr _ _, zr _ _], zH, zH, zH, zH, zH, zH, zH, zH, zH, zH, zH, zH, zH, zH, zH, zH, zH, zH, zH, zH, zO _ [zi _, zi _, zr _ _], zAi 0 24 _]) rfl ?_
          refine z_seq (S' := zi _ :: _) rfl ?_
          refine z_mmin F q770 dX1_about_80 (Nat.le_of_ble_eq_true rfl) rfl (Nat.le_of_ble_eq_true rfl) ⟨by omega, by omega⟩ ?_
          refine z_ieq (mminN (by omega) (by omega)) ?_
          refine z_goto F (tgt := 97) dX1_about_83 (by decide) ?_
          refine z_istore F dX1_about_97 (Nat.le_of_ble_eq_true rfl) ?_
          refine z_leq (L' := [_, _, _, _, _, _]) rfl ?_
          refine z_iincN F 1 dX1_about_99 rfl rfl ?_
          refine z_leq (L' := [_, _, _, _, _, _]) rfl ?_
          refine z_goto F (tgt := 58) dX1_about_102 (by decide) ?_
          refine ih (k + 1) _ (by omega) (by omega) (by omega) (by omega) ?_
          rcases hh with ⟨e1, e2⟩ | ⟨e1, e2⟩
          · first | exact Or.inl ⟨e1, by rw [e2]; rfl⟩ | (exfalso; omega)
          · first | exact Or.inr ⟨e1, by rw [e2]; rfl⟩ | (exfalso; omega)
  refine z_aload_n F dX1_about_0 rfl ?_
  refine z_iload_n F dX1_about_1 rfl ?_
  refine z_callV F (c_netAt_ok P t fp j hj hP) 1 rfl (lw_V q429 q431 qs0 q109 q432) (by decide +kernel) ⟨Nat.le_of_ble_eq_true rfl, Nat.le_of_ble_eq_true rfl⟩ ⟨by omega, by omega⟩ [0, 1, 2, 3, 4, 5, 6, 7, 8, 9, 10, 11, 12, 13, 14, 15, 16, 17, 18, 19, 20, 21] 22 ⟨rfl, rfl, rfl, ⟨Or.inr (congrArg some (zrnP rfl).symm), Or.inr rfl, Or.inl rfl, Or.inl rfl, Or.inl rfl, Or.inl rfl, Or.inl rfl, Or.inl rfl, Or.inl rfl, Or.inl rfl, Or.inl rfl, Or.inl rfl, Or.inl rfl, Or.inl rfl, Or.inl rfl, Or.inl rfl, Or.inl rfl, Or.inl rfl, Or.inl rfl, Or.inl rfl, Or.inl rfl, Or.inl rfl, trivial⟩⟩ (fun _ => rfl) (Nat.le_of_ble_eq_true rfl) ⟨⟨Or.inl rfl, Or.inl rfl, Or.inr trivial, Or.inr trivial, Or.inr trivial, Or.inr trivial, Or.inr trivial, Or.inr trivial, Or.inr trivial, Or.inr trivial, Or.inr trivial, Or.inr trivial, Or.inr trivial, Or.inr trivial, Or.inr trivial, Or.inr trivial, Or.inr trivial, Or.inr trivial, Or.inr trivial, Or.inr trivial, Or.inr trivial, Or.inr trivial, trivial⟩, rfl, rfl, rfl, Nat.le_of_ble_eq_true rfl⟩ rfl zC1 rfl rfl dX1_about_2 (fun r_2 w_2 hp => ?_) (fun _ _ h => h.elim)
  obtain ⟨rfl, rfl⟩ := hp
  refine z_weq (w' := zPl (pR _) _ :: _) (congrArg (fun z => z :: _) (zrnP rfl)) ?_
  refine z_weq (w' := [zPl _ _, zO _ [zr _ _, zr _ _, zr _ _, zr _ _, zr _ _, zi _, zi _, zr _ _, zr _ _], zH, zH, zH, zH, zH, zH, zH, zH, zH, zH, zH, zH, zH, zH, zH, zH, zH, zH, zH, zH]) rfl ?_
  refine z_seq (S' := zr _ _ :: _) rfl ?_
  refine z_astore_n F dX1_about_5 (Nat.le_of_ble_eq_true rfl) ?_
  refine z_leq (L' := [_, _, _, _, _, _]) rfl ?_
  refine z_foc F j hj hP (N := 22) (M := 23) (L' := [_, _, _, some (zr 22 0), _, _]) (S' := []) rfl rfl (Nat.le_of_ble_eq_true rfl) ⟨rfl, trivial, trivial, trivial, trivial, trivial, trivial, trivial, trivial, trivial, trivial, trivial, trivial, trivial, trivial, trivial, trivial, trivial, trivial, trivial, trivial, trivial⟩ ⟨Or.inl rfl, Or.inl rfl, Or.inl rfl, Or.inr ⟨rfl, rfl⟩, Or.inl rfl, Or.inl rfl, trivial⟩ rfl trivial rfl ?_
  refine z_weq (w' := [zPl _ _, zO _ [zr _ _, zr _ _, zr _ _, zr _ _, zr _ _, zi _, zi _, zr _ _, zr _ _], zH, zH, zH, zH, zH, zH, zH, zH, zH, zH, zH, zH, zH, zH, zH, zH, zH, zH, zH, zH, zO _ [zi _, zi _, zr _ _], zAi 0 24 _]) rfl ?_
  refine z_iload_n F dX1_about_6 rfl ?_
  refine z_iconst F (nI 0) dX1_about_7 rfl ?_
  refine z_iconst F (nI 4) dX1_about_8 rfl ?_
  refine z_callS F (c_in x (nI 0) (nI 4)) 3 rfl (lw_S q349 q350 q109 q351) (by decide +kernel) ⟨Nat.le_of_ble_eq_true rfl, Nat.le_of_ble_eq_true rfl⟩ ⟨by omega, by omega⟩ [0] 24 ⟨rfl, rfl, rfl, ⟨Or.inl rfl, trivial⟩⟩ (fun h => nomatch h) (Nat.le_of_ble_eq_true rfl) ⟨⟨Or.inr (by first | exact ⟨rfl, pR_B _ (by decide)⟩ | exact ⟨rfl, uR_B (by decide) (by decide)⟩), Or.inr rfl, Or.inr trivial, Or.inr trivial, Or.inr trivial, Or.inr trivial, Or.inr trivial, Or.inr trivial, Or.inr trivial, Or.inr trivial, Or.inr trivial, Or.inr trivial, Or.inr trivial, Or.inr trivial, Or.inr trivial, Or.inr trivial, Or.inr trivial, Or.inr trivial, Or.inr trivial, Or.inr trivial, Or.inr trivial, Or.inr trivial, Or.inr rfl, Or.inr trivial, trivial⟩, rfl, rfl, rfl, Nat.le_of_ble_eq_true rfl⟩ rfl rfl dX1_about_9 (fun r_9 w_9 hp => ?_) (fun _ _ h => h.elim)
  obtain ⟨rfl, rfl⟩ := hp
  refine z_weq (w' := [zPl _ _, zO _ [zr _ _, zr _ _, zr _ _, zr _ _, zr _ _, zi _, zi _, zr _ _, zr _ _], zH, zH, zH, zH, zH, zH, zH, zH, zH, zH, zH, zH, zH, zH, zH, zH, zH, zH, zH, zH, zO _ [zi _, zi _, zr _ _], zAi 0 24 _]) rfl ?_
  refine z_seq (S' := zi _ :: _) rfl ?_
  refine z_callS F (c_fnd (inB x (nI 0) (nI 4))) 1 rfl (lw_S q433 q434 q109 q435) (by decide +kernel) ⟨Nat.le_of_ble_eq_true rfl, Nat.le_of_ble_eq_true rfl⟩ ⟨by omega, by omega⟩ [0] 24 ⟨rfl, rfl, rfl, ⟨Or.inl rfl, trivial⟩⟩ (fun h => nomatch h) (Nat.le_of_ble_eq_true rfl) ⟨⟨Or.inr (by first | exact ⟨rfl, pR_B _ (by decide)⟩ | exact ⟨rfl, uR_B (by decide) (by decide)⟩), Or.inr rfl, Or.inr trivial, Or.inr trivial, Or.inr trivial, Or.inr trivial, Or.inr trivial, Or.inr trivial, Or.inr trivial, Or.inr trivial, Or.inr trivial, Or.inr trivial, Or.inr trivial, Or.inr trivial, Or.inr trivial, Or.inr trivial, Or.inr trivial, Or.inr trivial, Or.inr trivial, Or.inr trivial, Or.inr trivial, Or.inr trivial, Or.inr rfl, Or.inr trivial, trivial⟩, rfl, rfl, rfl, Nat.le_of_ble_eq_true rfl⟩ rfl rfl dX1_about_12 (fun r_12 w_12 hp => ?_) (fun E_ w_ hx => by obtain ⟨rfl, hb, rfl⟩ := hx; exact zx_pub F rfl E hno j 22 23 hj hP rfl rfl (Nat.le_of_ble_eq_true rfl) (Nat.le_of_ble_eq_true rfl) (Nat.le_of_ble_eq_true rfl) _ rfl ⟨rfl, trivial, trivial, trivial, trivial, trivial, trivial, trivial, trivial, trivial, trivial, trivial, trivial, trivial, trivial, trivial, trivial, trivial, trivial, trivial, trivial, trivial⟩ (Nat.le_of_ble_eq_true rfl) (by omega) (by omega) (⟨rfl, hb, rfl⟩))
  obtain ⟨rfl, hb, rfl⟩ := hp
  obtain ⟨x', -, hx5, rfl⟩ := inB_of (by omega) (by omega) hb
  refine z_weq (w' := [zPl _ _, zO _ [zr _ _, zr _ _, zr _ _, zr _ _, zr _ _, zi _, zi _, zr _ _, zr _ _], zH, zH, zH, zH, zH, zH, zH, zH, zH, zH, zH, zH, zH, zH, zH, zH, zH, zH, zH, zH, zO _ [zi _, zi _, zr _ _], zAi 0 24 _]) rfl ?_
  refine z_seq (S' := []) rfl ?_
  refine z_iload_n F dX1_about_15 rfl ?_
  refine z_iconst F (nI 3) dX1_about_16 rfl ?_
  refine z_icmp_geN F (by omega) (by omega) (tgt := 48) dX1_about_17 (by decide) (fun c_17 => ?_) (fun c_17 => ?_)
  · refine z_aload_n F dX1_about_48 rfl ?_
    refine z_iconst F (nI 0) dX1_about_49 rfl ?_
    refine z_callV F (c_lines (nI n) (nI d) f 0 (by omega)) 1 rfl (lw_V q769 q512 q513 q116 q514) (by decide +kernel) ⟨Nat.le_of_ble_eq_true rfl, Nat.le_of_ble_eq_true rfl⟩ ⟨by omega, by omega⟩ [0, 22, 23] 24 ⟨rfl, rfl, rfl, ⟨Or.inl rfl, Or.inr rfl, Or.inr rfl, trivial⟩⟩ (fun h => nomatch h) (Nat.le_of_ble_eq_true rfl) ⟨⟨Or.inr (by first | exact ⟨rfl, pR_B _ (by decide)⟩ | exact ⟨rfl, uR_B (by decide) (by decide)⟩), Or.inr rfl, Or.inr trivial, Or.inr trivial, Or.inr trivial, Or.inr trivial, Or.inr trivial, Or.inr trivial, Or.inr trivial, Or.inr trivial, Or.inr trivial, Or.inr trivial, Or.inr trivial, Or.inr trivial, Or.inr trivial, Or.inr trivial, Or.inr trivial, Or.inr trivial, Or.inr trivial, Or.inr trivial, Or.inr trivial, Or.inr trivial, Or.inl rfl, Or.inl rfl, trivial⟩, rfl, rfl, rfl, Nat.le_of_ble_eq_true rfl⟩ rfl zC5 rfl rfl dX1_about_50 (fun r_50 w_50 hp => ?_) (fun _ _ h => h.elim)
    obtain ⟨rfl, rfl⟩ := hp
    refine z_weq (w' := [zPl _ _, zO _ [zr _ _, zr _ _, zr _ _, zr _ _, zr _ _, zi _, zi _, zr _ _, zr _ _], zH, zH, zH, zH, zH, zH, zH, zH, zH, zH, zH, zH, zH, zH, zH, zH, zH, zH, zH, zH, zO _ [zi _, zi _, zr _ _], zAi 0 24 _]) rfl ?_
    refine z_seq (S' := zi _ :: _) rfl ?_
    refine z_istore F dX1_about_53 (Nat.le_of_ble_eq_true rfl) ?_
    refine z_leq (L' := [_, _, _, _, _, _]) rfl ?_
    refine z_iconst F (nI 1) dX1_about_55 rfl ?_
    refine z_istore F dX1_about_56 (Nat.le_of_ble_eq_true rfl) ?_
    refine z_leq (L' := [_, _, _, _, _, _]) rfl ?_
    exact loop x' (by omega) rfl _ 1 _ (Nat.lt_succ_self _) (by omega) (by omega) (by omega) (by
      by_cases q : x' = 3
      · exact Or.inl ⟨q, by unfold mnD mnD; omega⟩
      · exact Or.inr ⟨by omega, by unfold mxD mxD; omega⟩)
  · refine z_iload_n F dX1_about_20 rfl ?_
    refine z_if_neN F (by omega) (tgt := 31) dX1_about_21 (by decide) (fun c_21 => ?_) (fun c_21 => ?_)
    · refine z_iload_n F dX1_about_31 rfl ?_
      refine z_iconst F (nI 1) dX1_about_32 rfl ?_
      refine z_icmp_neN F (by omega) (by omega) (tgt := 43) dX1_about_33 (by decide) (fun c_33 => ?_) (fun c_33 => ?_)
      · refine z_aload_n F dX1_about_43 rfl ?_
        refine z_callV F (c_netCount n (nI d) f h24) 0 rfl (lw_V q765 q766 q767 q116 q768) (by decide +kernel) ⟨Nat.le_of_ble_eq_true rfl, Nat.le_of_ble_eq_true rfl⟩ ⟨by omega, by omega⟩ [0, 22, 23] 24 ⟨rfl, rfl, rfl, ⟨Or.inl rfl, Or.inr rfl, Or.inr rfl, trivial⟩⟩ (fun h => nomatch h) (Nat.le_of_ble_eq_true rfl) ⟨⟨Or.inr (by first | exact ⟨rfl, pR_B _ (by decide)⟩ | exact ⟨rfl, uR_B (by decide) (by decide)⟩), Or.inr rfl, Or.inr trivial, Or.inr trivial, Or.inr trivial, Or.inr trivial, Or.inr trivial, Or.inr trivial, Or.inr trivial, Or.inr trivial, Or.inr trivial, Or.inr trivial, Or.inr trivial, Or.inr trivial, Or.inr trivial, Or.inr trivial, Or.inr trivial, Or.inr trivial, Or.inr trivial, Or.inr trivial, Or.inr trivial, Or.inr trivial, Or.inl rfl, Or.inl rfl, trivial⟩, rfl, rfl, rfl, Nat.le_of_ble_eq_true rfl⟩ rfl zC5 rfl rfl dX1_about_44 (fun r_44 w_44 hp => ?_) (fun _ _ h => h.elim)
        obtain ⟨rfl, rfl⟩ := hp
        rw [hl, Nat.mul_div_cancel_left _ (by decide)]
        refine z_weq (w' := [zPl _ _, zO _ [zr _ _, zr _ _, zr _ _, zr _ _, zr _ _, zi _, zi _, zr _ _, zr _ _], zH, zH, zH, zH, zH, zH, zH, zH, zH, zH, zH, zH, zH, zH, zH, zH, zH, zH, zH, zH, zO _ [zi _, zi _, zr _ _], zAi 0 24 _]) rfl ?_
        refine z_seq (S' := zi _ :: _) rfl ?_
        refine z_loc [some _, some _, some _, none, none, none] ⟨rfl, rfl, rfl, trivial⟩ ?_
        refine z_unfocus F rfl j 22 23 22 hj zput_self rfl rfl (Nat.le_of_ble_eq_true rfl) (Nat.le_of_ble_eq_true rfl) (Nat.le_of_ble_eq_true rfl) (Nat.le_of_ble_eq_true rfl) [zO _ [zr _ _, zr _ _, zr _ _, zr _ _, zr _ _, zi _, zi _, zr _ _, zr _ _], zH, zH, zH, zH, zH, zH, zH, zH, zH, zH, zH, zH, zH, zH, zH, zH, zH, zH, zH, zH] rfl ⟨rfl, trivial, trivial, trivial, trivial, trivial, trivial, trivial, trivial, trivial, trivial, trivial, trivial, trivial, trivial, trivial, trivial, trivial, trivial, trivial, trivial, trivial⟩ uOK rfl rfl ?_
        refine z_weq (w' := zPl (pR (zput P j (some _))) (zput P j (some _)) :: _) (congrArg (fun z => z :: _) uPl2) ?_
        exact z_iret F E rfl dX1_about_47 (by omega) (by omega) (⟨x', by omega, rfl, by first | (have e : x' = 0 := (by omega); subst e; rfl) | (have e : x' = 1 := (by omega); subst e; rfl) | (have e : x' = 2 := (by omega); subst e; rfl), by rw [zput_some hP]; rfl⟩)
      · refine z_aload_n F dX1_about_36 rfl ?_
        refine z_getN F zC5 (f := 1) rfl (Nat.le_of_ble_eq_true rfl) q248 rfl dX1_about_37 ?_
        refine z_goto F (tgt := 47) dX1_about_40 (by decide) ?_
        refine z_loc [some _, some _, some _, none, none, none] ⟨rfl, rfl, rfl, trivial⟩ ?_
        refine z_unfocus F rfl j 22 23 22 hj zput_self rfl rfl (Nat.le_of_ble_eq_true rfl) (Nat.le_of_ble_eq_true rfl) (Nat.le_of_ble_eq_true rfl) (Nat.le_of_ble_eq_true rfl) [zO _ [zr _ _, zr _ _, zr _ _, zr _ _, zr _ _, zi _, zi _, zr _ _, zr _ _], zH, zH, zH, zH, zH, zH, zH, zH, zH, zH, zH, zH, zH, zH, zH, zH, zH, zH, zH, zH] rfl ⟨rfl, trivial, trivial, trivial, trivial, trivial, trivial, trivial, trivial, trivial, trivial, trivial, trivial, trivial, trivial, trivial, trivial, trivial, trivial, trivial, trivial, trivial⟩ uOK rfl rfl ?_
        refine z_weq (w' := zPl (pR (zput P j (some _))) (zput P j (some _)) :: _) (congrArg (fun z => z :: _) uPl2) ?_
        exact z_iret F E rfl dX1_about_47 (by omega) (by omega) (⟨x', by omega, rfl, by first | (have e : x' = 0 := (by omega); subst e; rfl) | (have e : x' = 1 := (by omega); subst e; rfl) | (have e : x' = 2 := (by omega); subst e; rfl), by rw [zput_some hP]; rfl⟩)
    · refine z_aload_n F dX1_about_24 rfl ?_
      refine z_getN F zC5 (f := 0) rfl (Nat.le_of_ble_eq_true rfl) q245 rfl dX1_about_25 ?_
      refine z_goto F (tgt := 47) dX1_about_28 (by decide) ?_
      refine z_loc [some _, some _, some _, none, none, none] ⟨rfl, rfl, rfl, trivial⟩ ?_
      refine z_unfocus F rfl j 22 23 22 hj zput_self rfl rfl (Nat.le_of_ble_eq_true rfl) (Nat.le_of_ble_eq_true rfl) (Nat.le_of_ble_eq_true rfl) (Nat.le_of_ble_eq_true rfl) [zO _ [zr _ _, zr _ _, zr _ _, zr _ _, zr _ _, zi _, zi _, zr _ _, zr _ _], zH, zH, zH, zH, zH, zH, zH, zH, zH, zH, zH, zH, zH, zH, zH, zH, zH, zH, zH, zH] rfl ⟨rfl, trivial, trivial, trivial, trivial, trivial, trivial, trivial, trivial, trivial, trivial, trivial, trivial, trivial, trivial, trivial, trivial, trivial, trivial, trivial, trivial, trivial⟩ uOK rfl rfl ?_
      refine z_weq (w' := zPl (pR (zput P j (some _))) (zput P j (some _)) :: _) (congrArg (fun z => z :: _) uPl2) ?_
      exact z_iret F E rfl dX1_about_47 (by omega) (by omega) (⟨x', by omega, rfl, by first | (have e : x' = 0 := (by omega); subst e; rfl) | (have e : x' = 1 := (by omega); subst e; rfl) | (have e : x' = 2 := (by omega); subst e; rfl), by rw [zput_some hP]; rfl⟩)
theorem c_plineAt (P : zPt) (t : Nat) (fp : Int32) (j n d : Nat) (f : Nat → Int32) (x : Int32) (hj : j < 8) (h : nok n d f) (hP : P j = some (nI n, nI d, f)) : zCtr yX1_lineAt cX1_lineAt 4 (some .int) 8 3 112 [zr 1 0, zi (nI j), zi x] (xH P t fp) (fun r w => ∃ i, i < (prs n f).length ∧ x = nI i ∧ r = some (zi (nI (pcode ((prs n f).getD i (0, 0))))) ∧ w = xH P t fp) (fun E w => E = eNSE ∧ (∀ i, i < (prs n f).length → x ≠ nI i) ∧ w = xH P t fp) := by
  refine z_start (by decide) [some (zr 1 0), some (zi (nI j)), some (zi x), none] rfl (fun _ => Nat.le_of_ble_eq_true rfl) (fun _ => rfl) (fun X F E hno hin => ?_)
  have h96 := prs_96 h
  refine z_aload_n F dX1_lineAt_0 rfl ?_
  refine z_iload_n F dX1_lineAt_1 rfl ?_
  refine z_callV F (c_netAt_ok P t fp j hj hP) 1 rfl (lw_V q429 q431 qs0 q109 q432) (by decide +kernel) ⟨Nat.le_of_ble_eq_true rfl, Nat.le_of_ble_eq_true rfl⟩ ⟨by omega, by omega⟩ [0, 1, 2, 3, 4, 5, 6, 7, 8, 9, 10, 11, 12, 13, 14, 15, 16, 17, 18, 19, 20, 21] 22 ⟨rfl, rfl, rfl, ⟨Or.inr (congrArg some (zrnP rfl).symm), Or.inr rfl, Or.inl rfl, Or.inl rfl, Or.inl rfl, Or.inl rfl, Or.inl rfl, Or.inl rfl, Or.inl rfl, Or.inl rfl, Or.inl rfl, Or.inl rfl, Or.inl rfl, Or.inl rfl, Or.inl rfl, Or.inl rfl, Or.inl rfl, Or.inl rfl, Or.inl rfl, Or.inl rfl, Or.inl rfl, Or.inl rfl, trivial⟩⟩ (fun _ => rfl) (Nat.le_of_ble_eq_true rfl) ⟨⟨Or.inl rfl, Or.inl rfl, Or.inr trivial, Or.inr trivial, Or.inr trivial, Or.inr trivial, Or.inr trivial, Or.inr trivial, Or.inr trivial, Or.inr trivial, Or.inr trivial, Or.inr trivial, Or.inr trivial, Or.inr trivial, Or.inr trivial, Or.inr trivial, Or.inr trivial, Or.inr trivial, Or.inr trivial, Or.inr trivial, Or.inr trivial, Or.inr trivial, trivial⟩, rfl, rfl, rfl, Nat.le_of_ble_eq_true rfl⟩ rfl zC1 rfl rfl dX1_lineAt_2 (fun r_2 w_2 hp => ?_) (fun _ _ h => h.elim)
  obtain ⟨rfl, rfl⟩ := hp
  refine z_weq (w' := zPl (pR _) _ :: _) (congrArg (fun z => z :: _) (zrnP rfl)) ?_
  refine z_weq (w' := [zPl _ _, zO _ [zr _ _, zr _ _, zr _ _, zr _ _, zr _ _, zi _, zi _, zr _ _, zr _ _], zH, zH, zH, zH, zH, zH, zH, zH, zH, zH, zH, zH, zH, zH, zH, zH, zH, zH, zH, zH]) rfl ?_
  refine z_seq (S' := zr _ _ :: _) rfl ?_
  refine z_foc F j hj hP (N := 22) (M := 23) (L' := [_, _, _, _]) (S' := [zr 22 0]) rfl rfl (Nat.le_of_ble_eq_true rfl) ⟨rfl, trivial, trivial, trivial, trivial, trivial, trivial, trivial, trivial, trivial, trivial, trivial, trivial, trivial, trivial, trivial, trivial, trivial, trivial, trivial, trivial, trivial⟩ ⟨Or.inl rfl, Or.inl rfl, Or.inl rfl, Or.inl rfl, trivial⟩ rfl ⟨Or.inr ⟨rfl, rfl⟩, trivial⟩ rfl ?_
  refine z_weq (w' := [zPl _ _, zO _ [zr _ _, zr _ _, zr _ _, zr _ _, zr _ _, zi _, zi _, zr _ _, zr _ _], zH, zH, zH, zH, zH, zH, zH, zH, zH, zH, zH, zH, zH, zH, zH, zH, zH, zH, zH, zH, zO _ [zi _, zi _, zr _ _], zAi 0 24 _]) rfl ?_
  refine z_callV F (c_row n (nI d) f h.sy (by omega)) 0 rfl (lw_V q779 q780 q781 q116 q782) (by decide +kernel) ⟨Nat.le_of_ble_eq_true rfl, Nat.le_of_ble_eq_true rfl⟩ ⟨by omega, by omega⟩ [0, 22, 23] 24 ⟨rfl, rfl, rfl, ⟨Or.inl rfl, Or.inr rfl, Or.inr rfl, trivial⟩⟩ (fun h => nomatch h) (Nat.le_of_ble_eq_true rfl) ⟨⟨Or.inr (by first | exact ⟨rfl, pR_B _ (by decide)⟩ | exact ⟨rfl, uR_B (by decide) (by decide)⟩), Or.inr rfl, Or.inr trivial, Or.inr trivial, Or.inr trivial, Or.inr trivial, Or.inr trivial, Or.inr trivial, Or.inr trivial, Or.inr trivial, Or.inr trivial, Or.inr trivial, Or.inr trivial, Or.inr trivial, Or.inr trivial, Or.inr trivial, Or.inr trivial, Or.inr trivial, Or.inr trivial, Or.inr trivial, Or.inr trivial, Or.inr trivial, Or.inl rfl, Or.inl rfl, trivial⟩, rfl, rfl, rfl, Nat.le_of_ble_eq_true rfl⟩ rfl zC5 rfl rfl dX1_lineAt_5 (fun r_5 w_5 hp => ?_) (fun _ _ h => h.elim)
  obtain ⟨rfl, rfl⟩ := hp
  refine z_weq (w' := [zPl _ _, zO _ [zr _ _, zr _ _, zr _ _, zr _ _, zr _ _, zi _, zi _, zr _ _, zr _ _], zH, zH, zH, zH, zH, zH, zH, zH, zH, zH, zH, zH, zH, zH, zH, zH, zH, zH, zH, zH, zO _ [zi _, zi _, zr _ _], zAi 0 24 _, zAi 0 (prs n f).length _]) rfl ?_
  refine z_seq (S' := zr _ _ :: _) rfl ?_
  refine z_unfocusH F rfl j 22 23 hj zput_self rfl rfl (Nat.le_of_ble_eq_true rfl) (Nat.le_of_ble_eq_true rfl) [zO _ [zr _ _, zr _ _, zr _ _, zr _ _, zr _ _, zi _, zi _, zr _ _, zr _ _], zH, zH, zH, zH, zH, zH, zH, zH, zH, zH, zH, zH, zH, zH, zH, zH, zH, zH, zH, zH, zH, zH, zAi 0 (prs n f).length _] rfl ⟨Nat.le_of_ble_eq_true rfl, Nat.le_of_ble_eq_true rfl⟩ ⟨rfl, trivial, trivial, trivial, trivial, trivial, trivial, trivial, trivial, trivial, trivial, trivial, trivial, trivial, trivial, trivial, trivial, trivial, trivial, trivial, trivial, trivial, trivial, trivial, trivial⟩ uOV rfl rfl ?_
  refine z_weq (w' := zPl (pR P) P :: _) (congrArg (fun z => z :: _) (uPl3 hP)) ?_
  refine z_astore_n F dX1_lineAt_8 (Nat.le_of_ble_eq_true rfl) ?_
  refine z_leq (L' := [_, _, _, _]) rfl ?_
  refine z_iload_n F dX1_lineAt_9 rfl ?_
  refine z_iconst F (nI 0) dX1_lineAt_10 rfl ?_
  refine z_aload_n F dX1_lineAt_11 rfl ?_
  refine z_alenN F (fun _ => rfl) rfl dX1_lineAt_12 ?_
  refine z_iconst F (nI 1) dX1_lineAt_13 rfl ?_
  refine z_isub F dX1_lineAt_14 ?_
  refine z_callS F (c_in x (nI 0) (nI (prs n f).length - 1)) 3 rfl (lw_S q349 q350 q109 q351) (by decide +kernel) ⟨Nat.le_of_ble_eq_true rfl, Nat.le_of_ble_eq_true rfl⟩ ⟨by omega, by omega⟩ [0] 25 ⟨rfl, rfl, rfl, ⟨Or.inl rfl, trivial⟩⟩ (fun h => nomatch h) (Nat.le_of_ble_eq_true rfl) ⟨⟨Or.inr (by first | exact ⟨rfl, pR_B _ (by decide)⟩ | exact ⟨rfl, uR_B (by decide) (by decide)⟩), Or.inr rfl, Or.inr trivial, Or.inr trivial, Or.inr trivial, Or.inr trivial, Or.inr trivial, Or.inr trivial, Or.inr trivial, Or.inr trivial, Or.inr trivial, Or.inr trivial, Or.inr trivial, Or.inr trivial, Or.inr trivial, Or.inr trivial, Or.inr trivial, Or.inr trivial, Or.inr trivial, Or.inr trivial, Or.inr trivial, Or.inr trivial, Or.inr trivial, Or.inr trivial, Or.inr trivial, trivial⟩, rfl, rfl, rfl, Nat.le_of_ble_eq_true rfl⟩ rfl rfl dX1_lineAt_15 (fun r_15 w_15 hp => ?_) (fun _ _ h => h.elim)
  obtain ⟨rfl, rfl⟩ := hp
  refine z_weq (w' := [zPl _ _, zO _ [zr _ _, zr _ _, zr _ _, zr _ _, zr _ _, zi _, zi _, zr _ _, zr _ _], zH, zH, zH, zH, zH, zH, zH, zH, zH, zH, zH, zH, zH, zH, zH, zH, zH, zH, zH, zH, zH, zH, zAi 0 (prs n f).length _]) rfl ?_
  refine z_seq (S' := zi _ :: _) rfl ?_
  refine z_callS F (c_fnd (inB x (nI 0) (nI (prs n f).length - 1))) 1 rfl (lw_S q433 q434 q109 q435) (by decide +kernel) ⟨Nat.le_of_ble_eq_true rfl, Nat.le_of_ble_eq_true rfl⟩ ⟨by omega, by omega⟩ [0] 25 ⟨rfl, rfl, rfl, ⟨Or.inl rfl, trivial⟩⟩ (fun h => nomatch h) (Nat.le_of_ble_eq_true rfl) ⟨⟨Or.inr (by first | exact ⟨rfl, pR_B _ (by decide)⟩ | exact ⟨rfl, uR_B (by decide) (by decide)⟩), Or.inr rfl, Or.inr trivial, Or.inr trivial, Or.inr trivial, Or.inr trivial, Or.inr trivial, Or.inr trivial, Or.inr trivial, Or.inr trivial, Or.inr trivial, Or.inr trivial, Or.inr trivial, Or.inr trivial, Or.inr trivial, Or.inr trivial, Or.inr trivial, Or.inr trivial, Or.inr trivial, Or.inr trivial, Or.inr trivial, Or.inr trivial, Or.inr trivial, Or.inr trivial, Or.inr trivial, trivial⟩, rfl, rfl, rfl, Nat.le_of_ble_eq_true rfl⟩ rfl rfl dX1_lineAt_18 (fun r_18 w_18 hp => ?_) (fun E_ w_ hx => by obtain ⟨rfl, hb, rfl⟩ := hx; exact zx_leave F E hno (Nat.le_of_ble_eq_true rfl) (Nat.le_of_ble_eq_true rfl) _ rfl ⟨(by first | exact pR_N _ (Nat.le_of_ble_eq_true rfl) | exact uR_N (Nat.le_of_ble_eq_true rfl) (Nat.le_of_ble_eq_true rfl)), rfl, trivial, trivial, trivial, trivial, trivial, trivial, trivial, trivial, trivial, trivial, trivial, trivial, trivial, trivial, trivial, trivial, trivial, trivial, trivial, trivial, trivial⟩ (by omega) (by omega) (⟨rfl, fun i hi e => (by rw [e, inB_len2 (by omega) hi] at hb; cases hb), rfl⟩))
  obtain ⟨rfl, hb, rfl⟩ := hp
  obtain ⟨i, hi, rfl⟩ := inB_len (by omega) hb
  refine z_weq (w' := [zPl _ _, zO _ [zr _ _, zr _ _, zr _ _, zr _ _, zr _ _, zi _, zi _, zr _ _, zr _ _], zH, zH, zH, zH, zH, zH, zH, zH, zH, zH, zH, zH, zH, zH, zH, zH, zH, zH, zH, zH, zH, zH, zAi 0 (prs n f).length _]) rfl ?_
  refine z_seq (S' := []) rfl ?_
  refine z_aload_n F dX1_lineAt_21 rfl ?_
  refine z_iload_n F dX1_lineAt_22 rfl ?_
  refine z_ialdN F rfl (by omega) (by omega) rfl dX1_lineAt_23 ?_
  refine z_ieq (show _ = nI (pcode ((prs n f).getD i (0, 0))) from if_pos hi) ?_
  refine z_loc [some _, some _, some _, none] ⟨rfl, rfl, rfl, trivial⟩ ?_
  refine z_take F 22 [zPl _ _, zO _ [zr _ _, zr _ _, zr _ _, zr _ _, zr _ _, zi _, zi _, zr _ _, zr _ _], zH, zH, zH, zH, zH, zH, zH, zH, zH, zH, zH, zH, zH, zH, zH, zH, zH, zH, zH, zH] rfl ?_
  exact z_iret F E rfl dX1_lineAt_24 (by omega) (by omega) (⟨i, hi, rfl, rfl, rfl⟩)
end C46
