/-! falls: the law, the reference's operation -/
section C9yn
theorem cfar_le (n : Nat) (f : Nat → Int32) (st : Int32) : cfar n f st ≤ 100 := by
  unfold cfar
  cases h : cfa n f st 32 with
  | none => exact Nat.le_refl _
  | some v => have := cfa_lt n f st 32 v h; show v ≤ 100; omega
def ptp (f : Nat → Int32) (l : List (Nat × Nat)) (i j : Nat) : Nat → Int32 := pt (pt f (la l i) (lb l i)) (la l j) (lb l j)
def stp (n i j : Nat) : Int32 := (allB n &&& (b1 i ^^^ (-1))) &&& (b1 j ^^^ (-1))
def flV (n : Nat) (f : Nat → Int32) (kind i j : Nat) : Nat := if kind = 1 then cfar n f (stp n i j) else cfar n (ptp f (prs n f) i j) (allB n)
theorem flV_le (n : Nat) (f : Nat → Int32) (kind i j : Nat) : flV n f kind i j ≤ 100 := by
  unfold flV
  split
  · exact cfar_le _ _ _
  · exact cfar_le _ _ _
def fax (o : Option (Nat × Nat × Nat)) (v i j : Nat) : Option (Nat × Nat × Nat) := match o with
  | none => some (v, i, j)
  | some b => if b.1 < v then some (v, i, j) else some b
def faR (val : Nat → Nat → Nat) (i : Nat) (o : Option (Nat × Nat × Nat)) : Nat → Option (Nat × Nat × Nat)
  | 0 => o
  | m + 1 => if i < m then fax (faR val i o m) (val i m) i m else faR val i o m
def fa2 (val : Nat → Nat → Nat) (N : Nat) : Nat → Option (Nat × Nat × Nat)
  | 0 => none
  | i + 1 => faR val i (fa2 val N i) N
def fa1 (val : Nat → Nat → Nat) : Nat → Option (Nat × Nat × Nat)
  | 0 => none
  | i + 1 => fax (fa1 val i) (val i i) i i
def fvI (o : Option (Nat × Nat × Nat)) : Int32 := match o with
  | none => -1
  | some b => nI b.1
def faI (o : Option (Nat × Nat × Nat)) : Int32 := match o with
  | none => -1
  | some b => nI b.2.1
def fbI (o : Option (Nat × Nat × Nat)) : Int32 := match o with
  | none => -1
  | some b => nI b.2.2
def foB (N : Nat) (o : Option (Nat × Nat × Nat)) : Prop := ∀ b, o = some b → b.1 ≤ 100 ∧ b.2.1 < N ∧ b.2.2 < N
theorem fax_B {N : Nat} {o : Option (Nat × Nat × Nat)} {v i j : Nat} (h : foB N o) (hv : v ≤ 100) (hi : i < N) (hj : j < N) : foB N (fax o v i j) := fun b e => by
  cases o with
  | none => simp only [fax, Option.some.injEq] at e; subst e; exact ⟨hv, hi, hj⟩
  | some x =>
    simp only [fax] at e
    split at e
    · simp only [Option.some.injEq] at e; subst e; exact ⟨hv, hi, hj⟩
    · simp only [Option.some.injEq] at e; subst e; exact h x rfl
theorem faR_B {N : Nat} {val : Nat → Nat → Nat} (hv : ∀ i j, val i j ≤ 100) {i : Nat} {o : Option (Nat × Nat × Nat)} (h : foB N o) : ∀ m, m ≤ N → foB N (faR val i o m)
  | 0, _ => h
  | m + 1, hm => by
    rw [faR]
    split
    · exact fax_B (faR_B hv h m (by omega)) (hv _ _) (by omega) (by omega)
    · exact faR_B hv h m (by omega)
theorem fa2_B {N : Nat} {val : Nat → Nat → Nat} (hv : ∀ i j, val i j ≤ 100) : ∀ i, foB N (fa2 val N i)
  | 0 => fun b e => (by cases e)
  | i + 1 => faR_B hv (fa2_B hv i) N (Nat.le_refl _)
theorem fa1_B {N : Nat} {val : Nat → Nat → Nat} (hv : ∀ i j, val i j ≤ 100) : ∀ i, i ≤ N → foB N (fa1 val i)
  | 0, _ => fun b e => (by cases e)
  | i + 1, hi => fax_B (fa1_B hv i (by omega)) (hv _ _) (by omega) (by omega)
theorem fax_s (o : Option (Nat × Nat × Nat)) (v i j : Nat) : ∃ b, fax o v i j = some b := by
  cases o with
  | none => exact ⟨_, rfl⟩
  | some x =>
    simp only [fax]
    split
    · exact ⟨_, rfl⟩
    · exact ⟨_, rfl⟩
theorem faR_s {val : Nat → Nat → Nat} {i : Nat} {o : Option (Nat × Nat × Nat)} (h : ∃ b, o = some b) : ∀ m, ∃ b, faR val i o m = some b
  | 0 => h
  | m + 1 => by
    rw [faR]
    split
    · exact fax_s _ _ _ _
    · exact faR_s h m
theorem faR_s2 {val : Nat → Nat → Nat} {i : Nat} {o : Option (Nat × Nat × Nat)} : ∀ m, i + 1 < m → ∃ b, faR val i o m = some b
  | 0, h => by omega
  | m + 1, h => by
    rw [faR, if_pos (by omega)]
    exact fax_s _ _ _ _
theorem fa2_s {val : Nat → Nat → Nat} {N : Nat} (hN : 2 ≤ N) : ∀ i, 1 ≤ i → ∃ b, fa2 val N i = some b
  | 0, h => by omega
  | 1, _ => faR_s2 (i := 0) N (by omega)
  | i + 2, _ => faR_s (fa2_s hN (i + 1) (by omega)) N
theorem fa1_s {val : Nat → Nat → Nat} : ∀ i, 1 ≤ i → ∃ b, fa1 val i = some b
  | 0, h => by omega
  | i + 1, _ => fax_s _ _ _ _
theorem faR_ge {val : Nat → Nat → Nat} {i : Nat} {o : Option (Nat × Nat × Nat)} : ∀ m, m ≤ i + 1 → faR val i o m = o
  | 0, _ => rfl
  | m + 1, h => by rw [faR, if_neg (by omega), faR_ge m (by omega)]
theorem fax_lt {N : Nat} {o : Option (Nat × Nat × Nat)} {v i j : Nat} (hB : foB N o) (hv : v ≤ 100) (h : fvI o < nI v) : fax o v i j = some (v, i, j) := by
  cases o with
  | none => rfl
  | some b =>
    have hb := (hB b rfl).1
    have h : nI b.1 < nI v := h
    have : b.1 < v := Nat.lt_of_not_le fun z => nI_nlt z (by omega) h
    simp only [fax, if_pos this]
theorem fax_ge {N : Nat} {o : Option (Nat × Nat × Nat)} {v i j : Nat} (hB : foB N o) (hv : v ≤ 100) (h : ¬ fvI o < nI v) : fax o v i j = o := by
  cases o with
  | none =>
    refine absurd ?_ h
    show (-1 : Int32) < nI v
    exact Int32.not_le.mp fun z => by
      have h0 : ¬ nI v < 0 := nI_pos (by omega)
      exact h0 (Int32.lt_of_le_of_lt z (by decide))
  | some b =>
    have hb := (hB b rfl).1
    have h : ¬ nI b.1 < nI v := h
    have : ¬ b.1 < v := fun z => h (nI_lt z (by omega))
    simp only [fax, if_neg this]
def flN (kind n : Nat) (f : Nat → Int32) : Nat := if kind = 0 then (prs n f).length else n
def flO (many kind n : Nat) (f : Nat → Int32) : Option (Nat × Nat × Nat) := if many = 0 then some (cfar n f (allB n), 0, 0) else if many = 1 then fa1 (flV n f kind) (flN kind n f) else fa2 (flV n f kind) (flN kind n f) (flN kind n f)
def few (many kind n : Nat) (f : Nat → Int32) : Prop := flN kind n f < many ∨ (kind = 1 ∧ many = n)
theorem flO_s {many kind n : Nat} {f : Nat → Int32} (hm : many ≤ 2) (h : ¬ few many kind n f) : ∃ b, flO many kind n f = some b ∧ b.1 ≤ 100 ∧ (1 ≤ many → b.2.1 < flN kind n f) ∧ (2 ≤ many → b.2.2 < flN kind n f) := by
  have hN : many ≤ flN kind n f := Nat.le_of_not_lt fun z => h (Or.inl z)
  unfold flO
  by_cases e0 : many = 0
  · rw [if_pos e0]; exact ⟨_, rfl, cfar_le _ _ _, fun z => by omega, fun z => by omega⟩
  · rw [if_neg e0]
    by_cases e1 : many = 1
    · rw [if_pos e1]
      obtain ⟨b, hb⟩ := fa1_s (val := flV n f kind) (flN kind n f) (by omega)
      have := fa1_B (N := flN kind n f) (flV_le n f kind) _ (Nat.le_refl _) b hb
      exact ⟨b, hb, this.1, fun _ => this.2.1, fun _ => this.2.2⟩
    · rw [if_neg e1]
      obtain ⟨b, hb⟩ := fa2_s (val := flV n f kind) (N := flN kind n f) (by omega) (flN kind n f) (by omega)
      have := fa2_B (N := flN kind n f) (flV_le n f kind) _ b hb
      exact ⟨b, hb, this.1, fun _ => this.2.1, fun _ => this.2.2⟩
theorem stp_in {n i j : Nat} (hn : n ≤ 24) (hi : i < 32) (hj : j < 32) : ∀ k, bt (stp n i j) k = true → k < n := fun k hk => by
  unfold stp at hk
  rw [b_and, b_and, Bool.and_eq_true, Bool.and_eq_true] at hk
  exact al_lt hn k hk.1.1
theorem jn_cg {f g : Nat → Int32} {a b : Nat} (h : ∀ k, f k = g k) : jn f a b = jn g a b := by rw [show f = g from funext h]
theorem jj_pp {f : Nat → Int32} {a b c d : Nat} (ha : a < 32) (hb : b < 32) (hc : c < 32) (hd : d < 32) (h1 : bt (f a) b = true) (h2 : bt (f b) a = true) (h3 : bt (f c) d = true) (h4 : bt (f d) c = true) : jn (jn (pt (pt f a b) c d) a b) c d = f := by
  funext k
  refine b_ext fun i hi => ?_
  rw [bt_jn hc hd, bt_jn ha hb, bt_pt hc hd _ hi, bt_pt ha hb _ hi]
  by_cases q1 : k = a ∧ i = b
  · rw [q1.1, q1.2, h1, decide_eq_true rfl, decide_eq_true rfl]; simp
  · by_cases q2 : k = b ∧ i = a
    · rw [q2.1, q2.2, h2, decide_eq_true rfl, decide_eq_true rfl]; simp
    · by_cases q3 : k = c ∧ i = d
      · rw [q3.1, q3.2, h3, decide_eq_true rfl, decide_eq_true rfl]; simp
      · by_cases q4 : k = d ∧ i = c
        · rw [q4.1, q4.2, h4, decide_eq_true rfl, decide_eq_true rfl]; simp
        · have e1 : (decide (k = a) && decide (i = b)) = false := by rw [← Bool.decide_and, decide_eq_false q1]
          have e2 : (decide (k = b) && decide (i = a)) = false := by rw [← Bool.decide_and, decide_eq_false q2]
          have e3 : (decide (k = c) && decide (i = d)) = false := by rw [← Bool.decide_and, decide_eq_false q3]
          have e4 : (decide (k = d) && decide (i = c)) = false := by rw [← Bool.decide_and, decide_eq_false q4]
          rw [e1, e2, e3, e4]; simp
theorem fl_out {x : Int32} {m : Nat} (h1 : ¬ x < 0) (h2 : ¬ nI m ≤ x) (hx : ∀ i, i < m → ¬ x = nI i) : False := by
  obtain ⟨k, hk, rfl⟩ := nI_of h1
  exact hx k (Nat.lt_of_not_le fun z => h2 (nI_le z hk)) rfl
theorem c_mfarOf (F0 : Nat → Int32) (G : Nat → Int64) (A : Nat → Nat → Int32) (B : Nat → Nat → Int64) (n d : Nat) (g : Nat → Int32) (st : Int32) (h : nok n d g) (hst : ∀ i, bt st i = true → i < n) (h4 : F0 4 = nI n) (hf : ∀ k, k < n → A 6 k = g k) :
    zCtr yX6_farOf cX6_farOf 2 (some .int) 2 0 0 [zr 1 0, zi st] [zH, zG F0 G A B] (fun r w => r = some (zi (nI (cfar n g st))) ∧ ∃ F' A', w = [zH, zG F' G A' B] ∧ frm [24, 25] F0 F' ∧ frm [23] A A') zNx := by
  refine z_start (by decide) [some (zr 1 0), some (zi st)] rfl (fun _ => Nat.le_of_ble_eq_true rfl) (fun _ => rfl) (fun X F E hno hin => ?_)
  have hn := h.n24
  have e1 : ∀ p, mw n g st n = some p → cfar n g st = p.1 := fun p hp => by
    have := (mw_some hst (fun a b ha hb => h.sym ha hb) (F := p.1) (S := p.2) hp).1
    unfold cfar; rw [this]
  have e2 : mw n g st n = none → cfar n g st = 100 := fun hp => by
    unfold cfar; rw [mw_none (h32 := by omega) hst hp]
  refine z_aload_n F dX6_farOf_0 rfl ?_
  refine z_iload_n F dX6_farOf_1 rfl ?_
  refine z_callV F (c_isWhole F0 G A B n g st hn (fun i _ q => hst i q) h4 hf) 1 rfl (lw_V q1920 q1922 qs72 q117 q1923) (by decide +kernel) ⟨Nat.le_of_ble_eq_true rfl, Nat.le_of_ble_eq_true rfl⟩ ⟨by omega, by omega⟩ [0, 1] 2 ⟨rfl, rfl, rfl, ⟨Or.inl rfl, Or.inr rfl, trivial⟩⟩ (fun h => nomatch h) (Nat.le_of_ble_eq_true rfl) ⟨⟨Or.inr trivial, Or.inl rfl, trivial⟩, rfl, rfl, rfl, Nat.le_of_ble_eq_true rfl⟩ rfl zC6 (zat_G0 rfl) rfl dX6_farOf_2 (fun r_2 w_2 hp => ?_) (fun _ _ h => h.elim)
  obtain ⟨rfl, F2, A2, rfl, g1, g2, g3⟩ := hp
  refine z_weq (w' := [zH, zG _ _ _ _]) rfl ?_
  refine z_seq (S' := zi _ :: _) rfl ?_
  refine z_if_eqB F (tgt := 15) dX6_farOf_5 (by decide) (fun c_5 => ?_) (fun c_5 => ?_)
  · have hno : mw n g st n = none := Option.not_isSome_iff_eq_none.mp (by rw [c_5]; decide)
    refine z_bipush F (nI 100) dX6_farOf_15 rfl ?_
    exact z_iret F E rfl dX6_farOf_17 (by omega) (by omega) (⟨by rw [e2 hno], F2, A2, rfl, g1, g2⟩)
  · obtain ⟨p, hp⟩ := Option.isSome_iff_exists.mp c_5
    refine z_aload_n F dX6_farOf_8 rfl ?_
    refine z_mi F rfl 24 rfl (Nat.le_of_ble_eq_true rfl) rfl q1504 dX6_farOf_9 ?_
    refine z_ieq ((g3 p hp).1) ?_
    refine z_goto F (tgt := 17) dX6_farOf_12 (by decide) ?_
    exact z_iret F E rfl dX6_farOf_17 (by omega) (by omega) (⟨by rw [e1 p hp], F2, A2, rfl, g1, g2⟩)
theorem c_mfarW (F0 : Nat → Int32) (G : Nat → Int64) (A : Nat → Nat → Int32) (B : Nat → Nat → Int64) (n d kind i j : Nat) (f : Nat → Int32) (h : nok n d f) (hk : kind < 2) (hi : i < flN kind n f) (hj : j < flN kind n f) (hE : LnE A (prs n f)) (h4 : F0 4 = nI n) (hf : ∀ k, k < 24 → A 6 k = f k) :
    zCtr yX6_farWithout cX6_farWithout 5 (some .int) 3 0 0 [zr 1 0, zi (nI kind), zi (nI i), zi (nI j)] [zH, zG F0 G A B] (fun r w => r = some (zi (nI (flV n f kind i j))) ∧ ∃ F' A', w = [zH, zG F' G A' B] ∧ frm [24, 25] F0 F' ∧ frm [23] A A') zNx := by
  refine z_start (by decide) [some (zr 1 0), some (zi (nI kind)), some (zi (nI i)), some (zi (nI j)), none] rfl (fun _ => Nat.le_of_ble_eq_true rfl) (fun _ => rfl) (fun X F E hno hin => ?_)
  have hn := h.n24
  have h96 := prs_96 h
  have hln : kind = 0 → i < (prs n f).length ∧ j < (prs n f).length := fun e => by
    unfold flN at hi hj; rw [if_pos e] at hi hj; exact ⟨hi, hj⟩
  have hkn : kind = 1 → i < n ∧ j < n := fun e => by
    unfold flN at hi hj; rw [if_neg (by omega)] at hi hj; exact ⟨hi, hj⟩
  have hsN : ∀ st : Int32, kind = 1 → (allB n &&& ((nI 1 <<< (nI i &&& 31)) ^^^ (-1))) &&& ((nI 1 <<< (nI j &&& 31)) ^^^ (-1)) = stp n i j := fun _ _ => rfl
  refine z_iload_n F dX6_farWithout_0 rfl ?_
  refine z_iconst F (nI 1) dX6_farWithout_1 rfl ?_
  refine z_icmp_neN F (by omega) (by omega) (tgt := 26) dX6_farWithout_2 (by decide) (fun c_2 => ?_) (fun c_2 => ?_)
  · obtain ⟨hil, hjl⟩ := hln (by omega)
    have ev : flV n f kind i j = cfar n (ptp f (prs n f) i j) (allB n) := if_neg (by omega)
    obtain ⟨p1, p2, p3⟩ := prs_at hil
    obtain ⟨r1, r2, r3⟩ := prs_at hjl
    have p4 : bt (f (lb (prs n f) i)) (la (prs n f) i) = true := by rw [← h.sym (by omega) p2]; exact p3
    have r4 : bt (f (lb (prs n f) j)) (la (prs n f) j) = true := by rw [← h.sym (by omega) r2]; exact r3
    obtain ⟨l1, l2⟩ : A 21 i = nI (la (prs n f) i) ∧ A 22 i = nI (lb (prs n f) i) := hE i hil
    obtain ⟨m1, m2⟩ : A 21 j = nI (la (prs n f) j) ∧ A 22 j = nI (lb (prs n f) j) := hE j hjl
    have q3 : bt (A 6 (la (prs n f) i)) (lb (prs n f) i) = true := by rw [hf _ (by omega)]; exact p3
    have q4 : bt (A 6 (lb (prs n f) i)) (la (prs n f) i) = true := by rw [hf _ (by omega)]; exact p4
    have q5 : bt (A 6 (la (prs n f) j)) (lb (prs n f) j) = true := by rw [hf _ (by omega)]; exact r3
    have q6 : bt (A 6 (lb (prs n f) j)) (la (prs n f) j) = true := by rw [hf _ (by omega)]; exact r4
    have hok := nok_pt (a := la (prs n f) j) (b := lb (prs n f) j) (nok_pt (a := la (prs n f) i) (b := lb (prs n f) i) h (by omega) p2) (by omega) r2
    refine z_aload_n F dX6_farWithout_26 rfl ?_
    refine z_aload_n F dX6_farWithout_27 rfl ?_
    refine z_ma F rfl 21 rfl (Nat.le_of_ble_eq_true rfl) rfl q1501 dX6_farWithout_28 ?_
    refine z_iload_n F dX6_farWithout_31 rfl ?_
    refine z_ialdGN F rfl rfl (Nat.le_of_ble_eq_true rfl) (by omega) rfl dX6_farWithout_32 ?_
    refine z_ieq (l1) ?_
    refine z_aload_n F dX6_farWithout_33 rfl ?_
    refine z_ma F rfl 22 rfl (Nat.le_of_ble_eq_true rfl) rfl q1502 dX6_farWithout_34 ?_
    refine z_iload_n F dX6_farWithout_37 rfl ?_
    refine z_ialdGN F rfl rfl (Nat.le_of_ble_eq_true rfl) (by omega) rfl dX6_farWithout_38 ?_
    refine z_ieq (l2) ?_
    refine z_callV F (c_parts _ _ _ _ (la (prs n f) i) (lb (prs n f) i) (by omega) (by omega)) 2 rfl (lw_V q1763 q1765 qs48 q117 q1766) (by decide +kernel) ⟨Nat.le_of_ble_eq_true rfl, Nat.le_of_ble_eq_true rfl⟩ ⟨by omega, by omega⟩ [0, 1] 2 ⟨rfl, rfl, rfl, ⟨Or.inl rfl, Or.inr rfl, trivial⟩⟩ (fun h => nomatch h) (Nat.le_of_ble_eq_true rfl) ⟨⟨Or.inr trivial, Or.inl rfl, trivial⟩, rfl, rfl, rfl, Nat.le_of_ble_eq_true rfl⟩ rfl zC6 (zat_G0 rfl) rfl dX6_farWithout_39 (fun r_39 w_39 hp => ?_) (fun _ _ h => h.elim)
    obtain ⟨rfl, rfl⟩ := hp
    refine z_weq (w' := [zH, zG _ _ _ _]) rfl ?_
    refine z_seq (S' := []) rfl ?_
    refine z_aload_n F dX6_farWithout_42 rfl ?_
    refine z_aload_n F dX6_farWithout_43 rfl ?_
    refine z_ma F rfl 21 rfl (Nat.le_of_ble_eq_true rfl) rfl q1501 dX6_farWithout_44 ?_
    refine z_iload_n F dX6_farWithout_47 rfl ?_
    refine z_ialdGN F rfl rfl (Nat.le_of_ble_eq_true rfl) (by omega) rfl dX6_farWithout_48 ?_
    refine z_ieq ((congrFun (fA_ne (by decide)) _).trans m1) ?_
    refine z_aload_n F dX6_farWithout_49 rfl ?_
    refine z_ma F rfl 22 rfl (Nat.le_of_ble_eq_true rfl) rfl q1502 dX6_farWithout_50 ?_
    refine z_iload_n F dX6_farWithout_53 rfl ?_
    refine z_ialdGN F rfl rfl (Nat.le_of_ble_eq_true rfl) (by omega) rfl dX6_farWithout_54 ?_
    refine z_ieq ((congrFun (fA_ne (by decide)) _).trans m2) ?_
    refine z_callV F (c_parts _ _ _ _ (la (prs n f) j) (lb (prs n f) j) (by omega) (by omega)) 2 rfl (lw_V q1763 q1765 qs48 q117 q1766) (by decide +kernel) ⟨Nat.le_of_ble_eq_true rfl, Nat.le_of_ble_eq_true rfl⟩ ⟨by omega, by omega⟩ [0, 1] 2 ⟨rfl, rfl, rfl, ⟨Or.inl rfl, Or.inr rfl, trivial⟩⟩ (fun h => nomatch h) (Nat.le_of_ble_eq_true rfl) ⟨⟨Or.inr trivial, Or.inl rfl, trivial⟩, rfl, rfl, rfl, Nat.le_of_ble_eq_true rfl⟩ rfl zC6 (zat_G0 rfl) rfl dX6_farWithout_55 (fun r_55 w_55 hp => ?_) (fun _ _ h => h.elim)
    obtain ⟨rfl, rfl⟩ := hp
    rw [fA_fA, fA_at]
    refine z_weq (w' := [zH, zG _ _ _ _]) rfl ?_
    refine z_seq (S' := []) rfl ?_
    refine z_aload_n F dX6_farWithout_58 rfl ?_
    refine z_aload_n F dX6_farWithout_59 rfl ?_
    refine z_callV F (c_mall F0 _ _ _ n hn h4) 0 rfl (lw_V q1880 q1882 qs63 q117 q1883) (by decide +kernel) ⟨Nat.le_of_ble_eq_true rfl, Nat.le_of_ble_eq_true rfl⟩ ⟨by omega, by omega⟩ [0, 1] 2 ⟨rfl, rfl, rfl, ⟨Or.inl rfl, Or.inr rfl, trivial⟩⟩ (fun h => nomatch h) (Nat.le_of_ble_eq_true rfl) ⟨⟨Or.inr trivial, Or.inl rfl, trivial⟩, rfl, rfl, rfl, Nat.le_of_ble_eq_true rfl⟩ rfl zC6 (zat_G0 rfl) rfl dX6_farWithout_60 (fun r_60 w_60 hp => ?_) (fun _ _ h => h.elim)
    obtain ⟨rfl, rfl⟩ := hp
    refine z_weq (w' := [zH, zG _ _ _ _]) rfl ?_
    refine z_seq (S' := zi _ :: _) rfl ?_
    refine z_callV F (c_mfarOf F0 _ _ _ n d (ptp f (prs n f) i j) (allB n) hok (al_lt hn) h4 (fun k hk => by rw [fA_at]; exact pt_cong (fun k hk => pt_cong hf (by omega) (by omega) hk) (by omega) (by omega) (by omega))) 1 rfl (lw_V q2027 q2029 qs86 q117 q2030) (by decide +kernel) ⟨Nat.le_of_ble_eq_true rfl, Nat.le_of_ble_eq_true rfl⟩ ⟨by omega, by omega⟩ [0, 1] 2 ⟨rfl, rfl, rfl, ⟨Or.inl rfl, Or.inr rfl, trivial⟩⟩ (fun h => nomatch h) (Nat.le_of_ble_eq_true rfl) ⟨⟨Or.inr trivial, Or.inl rfl, trivial⟩, rfl, rfl, rfl, Nat.le_of_ble_eq_true rfl⟩ rfl zC6 (zat_G0 rfl) rfl dX6_farWithout_63 (fun r_63 w_63 hp => ?_) (fun _ _ h => h.elim)
    obtain ⟨rfl, F2, A2, rfl, g1, g2⟩ := hp
    refine z_weq (w' := [zH, zG _ _ _ _]) rfl ?_
    refine z_seq (S' := zi _ :: _) rfl ?_
    refine z_istore F dX6_farWithout_66 (Nat.le_of_ble_eq_true rfl) ?_
    refine z_leq (L' := [_, _, _, _, _]) rfl ?_
    refine z_aload_n F dX6_farWithout_68 rfl ?_
    refine z_aload_n F dX6_farWithout_69 rfl ?_
    refine z_ma F rfl 21 rfl (Nat.le_of_ble_eq_true rfl) rfl q1501 dX6_farWithout_70 ?_
    refine z_iload_n F dX6_farWithout_73 rfl ?_
    refine z_ialdGN F rfl rfl (Nat.le_of_ble_eq_true rfl) (by omega) rfl dX6_farWithout_74 ?_
    refine z_ieq ((congrFun ((g2.at 21 rfl).trans (fA_ne (by decide))) _).trans l1) ?_
    refine z_aload_n F dX6_farWithout_75 rfl ?_
    refine z_ma F rfl 22 rfl (Nat.le_of_ble_eq_true rfl) rfl q1502 dX6_farWithout_76 ?_
    refine z_iload_n F dX6_farWithout_79 rfl ?_
    refine z_ialdGN F rfl rfl (Nat.le_of_ble_eq_true rfl) (by omega) rfl dX6_farWithout_80 ?_
    refine z_ieq ((congrFun ((g2.at 22 rfl).trans (fA_ne (by decide))) _).trans l2) ?_
    refine z_callV F (c_joins _ _ _ _ (la (prs n f) i) (lb (prs n f) i) (by omega) (by omega)) 2 rfl (lw_V q1755 q1757 qs47 q117 q1758) (by decide +kernel) ⟨Nat.le_of_ble_eq_true rfl, Nat.le_of_ble_eq_true rfl⟩ ⟨by omega, by omega⟩ [0, 1] 2 ⟨rfl, rfl, rfl, ⟨Or.inl rfl, Or.inr rfl, trivial⟩⟩ (fun h => nomatch h) (Nat.le_of_ble_eq_true rfl) ⟨⟨Or.inr trivial, Or.inl rfl, trivial⟩, rfl, rfl, rfl, Nat.le_of_ble_eq_true rfl⟩ rfl zC6 (zat_G0 rfl) rfl dX6_farWithout_81 (fun r_81 w_81 hp => ?_) (fun _ _ h => h.elim)
    obtain ⟨rfl, rfl⟩ := hp
    refine z_weq (w' := [zH, zG _ _ _ _]) rfl ?_
    refine z_seq (S' := []) rfl ?_
    refine z_aload_n F dX6_farWithout_84 rfl ?_
    refine z_aload_n F dX6_farWithout_85 rfl ?_
    refine z_ma F rfl 21 rfl (Nat.le_of_ble_eq_true rfl) rfl q1501 dX6_farWithout_86 ?_
    refine z_iload_n F dX6_farWithout_89 rfl ?_
    refine z_ialdGN F rfl rfl (Nat.le_of_ble_eq_true rfl) (by omega) rfl dX6_farWithout_90 ?_
    refine z_ieq ((congrFun ((fA_ne (by decide)).trans ((g2.at 21 rfl).trans (fA_ne (by decide)))) _).trans m1) ?_
    refine z_aload_n F dX6_farWithout_91 rfl ?_
    refine z_ma F rfl 22 rfl (Nat.le_of_ble_eq_true rfl) rfl q1502 dX6_farWithout_92 ?_
    refine z_iload_n F dX6_farWithout_95 rfl ?_
    refine z_ialdGN F rfl rfl (Nat.le_of_ble_eq_true rfl) (by omega) rfl dX6_farWithout_96 ?_
    refine z_ieq ((congrFun ((fA_ne (by decide)).trans ((g2.at 22 rfl).trans (fA_ne (by decide)))) _).trans m2) ?_
    refine z_callV F (c_joins _ _ _ _ (la (prs n f) j) (lb (prs n f) j) (by omega) (by omega)) 2 rfl (lw_V q1755 q1757 qs47 q117 q1758) (by decide +kernel) ⟨Nat.le_of_ble_eq_true rfl, Nat.le_of_ble_eq_true rfl⟩ ⟨by omega, by omega⟩ [0, 1] 2 ⟨rfl, rfl, rfl, ⟨Or.inl rfl, Or.inr rfl, trivial⟩⟩ (fun h => nomatch h) (Nat.le_of_ble_eq_true rfl) ⟨⟨Or.inr trivial, Or.inl rfl, trivial⟩, rfl, rfl, rfl, Nat.le_of_ble_eq_true rfl⟩ rfl zC6 (zat_G0 rfl) rfl dX6_farWithout_97 (fun r_97 w_97 hp => ?_) (fun _ _ h => h.elim)
    obtain ⟨rfl, rfl⟩ := hp
    rw [fA_fA, fA_at, g2.at 6 rfl, fA_at, jj_pp (by omega) (by omega) (by omega) (by omega) q3 q4 q5 q6]
    refine z_weq (w' := [zH, zG _ _ _ _]) rfl ?_
    refine z_seq (S' := []) rfl ?_
    refine z_iload F dX6_farWithout_100 rfl ?_
    exact z_iret F E rfl dX6_farWithout_102 (by omega) (by omega) (⟨by rw [ev], F2, _, rfl, g1, frm_back g2⟩)
  · have hk1 := hkn (by omega)
    have ev : flV n f kind i j = cfar n f (stp n i j) := if_pos (by omega)
    refine z_aload_n F dX6_farWithout_5 rfl ?_
    refine z_aload_n F dX6_farWithout_6 rfl ?_
    refine z_callV F (c_mall F0 G A B n hn h4) 0 rfl (lw_V q1880 q1882 qs63 q117 q1883) (by decide +kernel) ⟨Nat.le_of_ble_eq_true rfl, Nat.le_of_ble_eq_true rfl⟩ ⟨by omega, by omega⟩ [0, 1] 2 ⟨rfl, rfl, rfl, ⟨Or.inl rfl, Or.inr rfl, trivial⟩⟩ (fun h => nomatch h) (Nat.le_of_ble_eq_true rfl) ⟨⟨Or.inr trivial, Or.inl rfl, trivial⟩, rfl, rfl, rfl, Nat.le_of_ble_eq_true rfl⟩ rfl zC6 (zat_G0 rfl) rfl dX6_farWithout_7 (fun r_7 w_7 hp => ?_) (fun _ _ h => h.elim)
    obtain ⟨rfl, rfl⟩ := hp
    refine z_weq (w' := [zH, zG _ _ _ _]) rfl ?_
    refine z_seq (S' := zi _ :: _) rfl ?_
    refine z_iconst F (nI 1) dX6_farWithout_10 rfl ?_
    refine z_iload_n F dX6_farWithout_11 rfl ?_
    refine z_ishlB F dX6_farWithout_12 ?_
    refine z_iconst F (-1) dX6_farWithout_13 rfl ?_
    refine z_ixor F dX6_farWithout_14 ?_
    refine z_iand F dX6_farWithout_15 ?_
    refine z_iconst F (nI 1) dX6_farWithout_16 rfl ?_
    refine z_iload_n F dX6_farWithout_17 rfl ?_
    refine z_ishlB F dX6_farWithout_18 ?_
    refine z_iconst F (-1) dX6_farWithout_19 rfl ?_
    refine z_ixor F dX6_farWithout_20 ?_
    refine z_iand F dX6_farWithout_21 ?_
    refine z_callV F (c_mfarOf F0 G A B n d f (stp n i j) h (stp_in hn (by omega) (by omega)) h4 (fun k hk => hf k (by omega))) 1 rfl (lw_V q2027 q2029 qs86 q117 q2030) (by decide +kernel) ⟨Nat.le_of_ble_eq_true rfl, Nat.le_of_ble_eq_true rfl⟩ ⟨by omega, by omega⟩ [0, 1] 2 ⟨rfl, rfl, rfl, ⟨Or.inl rfl, Or.inr rfl, trivial⟩⟩ (fun h => nomatch h) (Nat.le_of_ble_eq_true rfl) ⟨⟨Or.inr trivial, Or.inl rfl, trivial⟩, rfl, rfl, rfl, Nat.le_of_ble_eq_true rfl⟩ rfl zC6 (zat_G0 rfl) rfl dX6_farWithout_22 (fun r_22 w_22 hp => ?_) (fun _ _ h => h.elim)
    obtain ⟨rfl, F2, A2, rfl, g1, g2⟩ := hp
    refine z_weq (w' := [zH, zG _ _ _ _]) rfl ?_
    refine z_seq (S' := zi _ :: _) rfl ?_
    exact z_iret F E rfl dX6_farWithout_25 (by omega) (by omega) (⟨by rw [ev], F2, A2, rfl, g1, g2⟩)
theorem c_mfalls_ok (F0 : Nat → Int32) (G : Nat → Int64) (A : Nat → Nat → Int32) (B : Nat → Nat → Int64) (s n d kind many : Nat) (f : Nat → Int32) (hs8 : s < 8) (h : nok n d f) (hs : Slt A s n (nI d) f) (hk : kind < 2) (hm : many < 3) :
    zCtr yX6_falls cX6_falls 9 (some .int) 4 0 0 [zr 1 0, zi (nI s), zi (nI kind), zi (nI many)] [zH, zG F0 G A B] (fun r w => ∃ F' A', w = [zH, zG F' G A' B] ∧ F' 0 = nI 0 ∧ frm [0, 4, 5, 20, 24, 25, 58] F0 F' ∧ frm [6, 21, 22, 23, 59] A A' ∧ ((few many kind n f ∧ r = some (zi (-1)) ∧ F' 58 = F0 58 ∧ A' 59 = A 59) ∨ (¬ few many kind n f ∧ ∃ b, flO many kind n f = some b ∧ r = some (zi (nI b.1)) ∧ F' 58 = nI many ∧ (1 ≤ many → A' 59 0 = nI b.2.1) ∧ (2 ≤ many → A' 59 1 = nI b.2.2)))) zNx := by
  refine z_start (by decide) [some (zr 1 0), some (zi (nI s)), some (zi (nI kind)), some (zi (nI many)), none, none, none, none, none] rfl (fun _ => Nat.le_of_ble_eq_true rfl) (fun _ => rfl) (fun X F E hno hin => ?_)
  have hn1 := h.n1
  have hn := h.n24
  have h96 := prs_96 h
  have hNN : flN kind n f ≤ 96 := by
    unfold flN
    split
    · exact h96
    · omega
  have hall : ∀ i, i < 32 → bt (allB n) i = true → i < n := fun i _ q => al_lt hn i q
  have end_ : ∀ (o : Option (Nat × Nat × Nat)) (F1 : Nat → Int32) (A1 : Nat → Nat → Int32), ¬ few many kind n f → flO many kind n f = o → F1 0 = nI 0 → F1 58 = nI many → frm [0, 4, 5, 20, 24, 25, 58] F0 F1 → frm [6, 21, 22, 23, 59] A A1 → (∀ b, o = some b → (1 ≤ many → A1 59 0 = nI b.2.1) ∧ (2 ≤ many → A1 59 1 = nI b.2.2)) → Z X [none, none, none, none, none, some (zi (fvI o)), none, none, none] [] [zH, zG F1 G A1 B] 0 0 213 := by
    intro o F1 A1 hf ho f0 f58 hF hA hb
    obtain ⟨b, hb1, -⟩ := flO_s (by omega) hf
    rw [ho] at hb1
    subst hb1
    refine z_iload F dX6_falls_213 rfl ?_
    exact z_iret F E rfl dX6_falls_215 (by omega) (by omega) (⟨F1, A1, rfl, f0, hF, hA, Or.inr ⟨hf, b, ho, rfl, f58, hb b rfl⟩⟩)
  have body : ∀ (o : Option (Nat × Nat × Nat)) (i j : Nat) (F1 : Nat → Int32) (A1 : Nat → Nat → Int32), foB (flN kind n f) o → i < flN kind n f → j < flN kind n f → F1 0 = nI 0 → F1 4 = nI n → F1 58 = nI many → frm [0, 4, 5, 20, 24, 25, 58] F0 F1 → frm [6, 21, 22, 23, 59] A A1 → LnE A1 (prs n f) → (∀ k, k < 24 → A1 6 k = f k) → (∀ b, o = some b → A1 59 0 = nI b.2.1 ∧ A1 59 1 = nI b.2.2) →
      (∀ (F2 : Nat → Int32) (A2 : Nat → Nat → Int32), F2 0 = nI 0 → F2 4 = nI n → F2 58 = nI many → frm [0, 4, 5, 20, 24, 25, 58] F0 F2 → frm [6, 21, 22, 23, 59] A A2 → LnE A2 (prs n f) → (∀ k, k < 24 → A2 6 k = f k) → (∀ b, fax o (flV n f kind i j) i j = some b → A2 59 0 = nI b.2.1 ∧ A2 59 1 = nI b.2.2) → Z X [some (zr 1 0), none, some (zi (nI kind)), some (zi (nI many)), some (zi (nI (flN kind n f))), some (zi (fvI (fax o (flV n f kind i j) i j))), some (zi (nI i)), some (zi (nI (j + 1))), none] [] [zH, zG F2 G A2 B] 0 0 141) →
      Z X [some (zr 1 0), none, some (zi (nI kind)), some (zi (nI many)), some (zi (nI (flN kind n f))), some (zi (fvI o)), some (zi (nI i)), some (zi (nI j)), none] [] [zH, zG F1 G A1 B] 0 0 160 := by
    intro o i j F1 A1 hB hi hj f0 f4 f58 hF hA hE hf hb kk
    have hle := flV_le n f kind i j
    refine z_aload_n F dX6_falls_160 rfl ?_
    refine z_iload_n F dX6_falls_161 rfl ?_
    refine z_iload F dX6_falls_162 rfl ?_
    refine z_iload F dX6_falls_164 rfl ?_
    refine z_callV F (c_mfarW F1 G A1 B n d kind i j f h hk hi hj hE f4 hf) 3 rfl (lw_V q2031 q2033 qs87 q117 q2034) (by decide +kernel) ⟨Nat.le_of_ble_eq_true rfl, Nat.le_of_ble_eq_true rfl⟩ ⟨by omega, by omega⟩ [0, 1] 2 ⟨rfl, rfl, rfl, ⟨Or.inl rfl, Or.inr rfl, trivial⟩⟩ (fun h => nomatch h) (Nat.le_of_ble_eq_true rfl) ⟨⟨Or.inr trivial, Or.inl rfl, trivial⟩, rfl, rfl, rfl, Nat.le_of_ble_eq_true rfl⟩ rfl zC6 (zat_G0 rfl) rfl dX6_falls_166 (fun r_166 w_166 hp => ?_) (fun _ _ h => h.elim)
    obtain ⟨rfl, F2, A2, rfl, g1, g2⟩ := hp
    refine z_weq (w' := [zH, zG _ _ _ _]) rfl ?_
    refine z_seq (S' := zi _ :: _) rfl ?_
    refine z_istore F dX6_falls_169 (Nat.le_of_ble_eq_true rfl) ?_
    refine z_leq (L' := [_, _, _, _, _, _, _, _, _]) rfl ?_
    refine z_iload F dX6_falls_171 rfl ?_
    refine z_iload F dX6_falls_173 rfl ?_
    refine z_icmp_gt F (tgt := 181) dX6_falls_175 (by decide) (fun c_175 => ?_) (fun c_175 => ?_)
    · refine z_iload F dX6_falls_181 rfl ?_
      refine z_istore F dX6_falls_183 (Nat.le_of_ble_eq_true rfl) ?_
      refine z_leq (L' := [_, _, _, _, _, _, _, _, _]) rfl ?_
      refine z_aload_n F dX6_falls_185 rfl ?_
      refine z_ma F rfl 59 rfl (Nat.le_of_ble_eq_true rfl) rfl q1539 dX6_falls_186 ?_
      refine z_iconst F (nI 0) dX6_falls_189 rfl ?_
      refine z_iload F dX6_falls_190 rfl ?_
      refine z_iastGN F rfl rfl (Nat.le_of_ble_eq_true rfl) (by omega) dX6_falls_192 ?_
      refine z_weq (w' := [_, _]) rfl ?_
      refine z_aload_n F dX6_falls_193 rfl ?_
      refine z_ma F rfl 59 rfl (Nat.le_of_ble_eq_true rfl) rfl q1539 dX6_falls_194 ?_
      refine z_iconst F (nI 1) dX6_falls_197 rfl ?_
      refine z_iload F dX6_falls_198 rfl ?_
      refine z_iastGN F rfl rfl (Nat.le_of_ble_eq_true rfl) (by omega) dX6_falls_200 ?_
      refine z_weq (w' := [_, _]) rfl ?_
      refine z_iincN F 1 dX6_falls_201 rfl rfl ?_
      refine z_leq (L' := [_, _, _, _, _, _, _, _, _]) rfl ?_
      refine z_goto F (tgt := 141) dX6_falls_204 (by decide) ?_
      have ex := fax_lt (i := i) (j := j) hB hle c_175
      rw [ex] at kk
      refine z_loc _ ?_ (kk F2 (zup2 (zup2 A2 59 0 (nI i)) 59 1 (nI j)) (by rw [g1.at 0 rfl]; exact f0) (by rw [g1.at 4 rfl]; exact f4) (by rw [g1.at 58 rfl]; exact f58) (hF.tr g1 (by decide) (by decide)) (frm_zup (frm_zup (hA.tr g2 (by decide) (by decide)) (by decide)) (by decide)) ((hE.to (g2.at 21 rfl) (g2.at 22 rfl)).to (by rw [zup2_ne (by decide), zup2_ne (by decide)]) (by rw [zup2_ne (by decide), zup2_ne (by decide)])) (fun k hk => by rw [zup2_ne (by decide), zup2_ne (by decide), g2.at 6 rfl]; exact hf k hk) (fun b e => by
        cases e
        rw [zup2_row, zup2_row]
        exact ⟨rfl, rfl⟩))
      exact ⟨rfl, rfl, rfl, rfl, rfl, rfl, rfl, trivial⟩
    · refine z_goto F (tgt := 201) dX6_falls_178 (by decide) ?_
      refine z_iincN F 1 dX6_falls_201 rfl rfl ?_
      refine z_leq (L' := [_, _, _, _, _, _, _, _, _]) rfl ?_
      refine z_goto F (tgt := 141) dX6_falls_204 (by decide) ?_
      have ex := fax_ge (i := i) (j := j) hB hle c_175
      rw [ex] at kk
      refine z_loc _ ?_ (kk F2 A2 (by rw [g1.at 0 rfl]; exact f0) (by rw [g1.at 4 rfl]; exact f4) (by rw [g1.at 58 rfl]; exact f58) (hF.tr g1 (by decide) (by decide)) (hA.tr g2 (by decide) (by decide)) (hE.to (g2.at 21 rfl) (g2.at 22 rfl)) (fun k hk => by rw [g2.at 6 rfl]; exact hf k hk) (fun b e => by rw [g2.at 59 rfl]; exact hb b e))
      exact ⟨rfl, rfl, rfl, rfl, rfl, rfl, rfl, trivial⟩
  have tail1 : many = 1 → ∀ (o : Option (Nat × Nat × Nat)) (i : Nat) (F1 : Nat → Int32) (A1 : Nat → Nat → Int32), i < flN kind n f → Z X [some (zr 1 0), none, some (zi (nI kind)), some (zi (nI many)), some (zi (nI (flN kind n f))), some (zi (fvI o)), some (zi (nI (i + 1))), none, none] [] [zH, zG F1 G A1 B] 0 0 114 → Z X [some (zr 1 0), none, some (zi (nI kind)), some (zi (nI many)), some (zi (nI (flN kind n f))), some (zi (fvI o)), some (zi (nI i)), some (zi (nI (i + 1))), none] [] [zH, zG F1 G A1 B] 0 0 141 := by
    intro e1 o i F1 A1 hi kk
    refine z_iload F dX6_falls_141 rfl ?_
    refine z_iload_n F dX6_falls_143 rfl ?_
    refine z_iconst F (nI 1) dX6_falls_144 rfl ?_
    refine z_icmp_neN F (by omega) (by omega) (tgt := 155) dX6_falls_145 (by decide) (fun c_145 => ?_) (fun c_145 => ?_)
    · exact absurd c_145 (by omega)
    · refine z_iload F dX6_falls_148 rfl ?_
      refine z_iconst F (nI 1) dX6_falls_150 rfl ?_
      refine z_iaddN F dX6_falls_151 ?_
      refine z_goto F (tgt := 157) dX6_falls_152 (by decide) ?_
      refine z_icmp_geN F (by omega) (by omega) (tgt := 207) dX6_falls_157 (by decide) (fun c_157 => ?_) (fun c_157 => ?_)
      · refine z_iincN F 1 dX6_falls_207 rfl rfl ?_
        refine z_leq (L' := [_, _, _, _, _, _, _, _, _]) rfl ?_
        refine z_goto F (tgt := 114) dX6_falls_210 (by decide) ?_
        refine z_loc _ ?_ kk
        exact ⟨rfl, rfl, rfl, rfl, rfl, rfl, trivial⟩
      · exact absurd c_157 (by omega)
  have one : many = 1 → ¬ few many kind n f → ∀ (m i : Nat) (F1 : Nat → Int32) (A1 : Nat → Nat → Int32), flN kind n f - i < m → i ≤ flN kind n f → F1 0 = nI 0 → F1 4 = nI n → F1 58 = nI many → frm [0, 4, 5, 20, 24, 25, 58] F0 F1 → frm [6, 21, 22, 23, 59] A A1 → LnE A1 (prs n f) → (∀ k, k < 24 → A1 6 k = f k) → (∀ b, fa1 (flV n f kind) i = some b → A1 59 0 = nI b.2.1 ∧ A1 59 1 = nI b.2.2) → Z X [some (zr 1 0), none, some (zi (nI kind)), some (zi (nI many)), some (zi (nI (flN kind n f))), some (zi (fvI (fa1 (flV n f kind) i))), some (zi (nI i)), none, none] [] [zH, zG F1 G A1 B] 0 0 114 := by
    intro e1 hnf m
    induction m with
    | zero => intro i F1 A1 hm; omega
    | succ m ih =>
      intro i F1 A1 hm hi f0 f4 f58 hF hA hE hf hb
      have hO : flO many kind n f = fa1 (flV n f kind) (flN kind n f) := by unfold flO; rw [if_neg (by omega), if_pos e1]
      have hB := fa1_B (N := flN kind n f) (flV_le n f kind) i hi
      refine z_iload F dX6_falls_114 rfl ?_
      refine z_iload F dX6_falls_116 rfl ?_
      refine z_icmp_geN F (by omega) (by omega) (tgt := 213) dX6_falls_118 (by decide) (fun c_118 => ?_) (fun c_118 => ?_)
      · have ei : i = flN kind n f := by omega
        subst ei
        refine z_loc _ ?_ (end_ _ F1 A1 hnf hO f0 f58 hF hA (fun b e => ⟨fun _ => (hb b e).1, fun _ => (hb b e).2⟩))
        exact ⟨rfl, trivial⟩
      · refine z_iload_n F dX6_falls_121 rfl ?_
        refine z_if_leN F (by omega) (tgt := 213) dX6_falls_122 (by decide) (fun c_122 => ?_) (fun c_122 => ?_)
        · exact absurd c_122 (by omega)
        · refine z_iload_n F dX6_falls_125 rfl ?_
          refine z_iconst F (nI 1) dX6_falls_126 rfl ?_
          refine z_icmp_neN F (by omega) (by omega) (tgt := 135) dX6_falls_127 (by decide) (fun c_127 => ?_) (fun c_127 => ?_)
          · exact absurd c_127 (by omega)
          · refine z_iload F dX6_falls_130 rfl ?_
            refine z_goto F (tgt := 139) dX6_falls_132 (by decide) ?_
            refine z_istore F dX6_falls_139 (Nat.le_of_ble_eq_true rfl) ?_
            refine z_leq (L' := [_, _, _, _, _, _, _, _, _]) rfl ?_
            refine z_iload F dX6_falls_141 rfl ?_
            refine z_iload_n F dX6_falls_143 rfl ?_
            refine z_iconst F (nI 1) dX6_falls_144 rfl ?_
            refine z_icmp_neN F (by omega) (by omega) (tgt := 155) dX6_falls_145 (by decide) (fun c_145 => ?_) (fun c_145 => ?_)
            · exact absurd c_145 (by omega)
            · refine z_iload F dX6_falls_148 rfl ?_
              refine z_iconst F (nI 1) dX6_falls_150 rfl ?_
              refine z_iaddN F dX6_falls_151 ?_
              refine z_goto F (tgt := 157) dX6_falls_152 (by decide) ?_
              refine z_icmp_geN F (by omega) (by omega) (tgt := 207) dX6_falls_157 (by decide) (fun c_157 => ?_) (fun c_157 => ?_)
              · exact absurd c_157 (by omega)
              · refine body (fa1 (flV n f kind) i) i i F1 A1 hB (by omega) (by omega) f0 f4 f58 hF hA hE hf hb (fun F2 A2 k0 k4 k58 kF kA kE kf kb => ?_)
                have nx := ih (i + 1) F2 A2 (by omega) (by omega) k0 k4 k58 kF kA kE kf kb
                exact tail1 e1 (fax (fa1 (flV n f kind) i) (flV n f kind i i) i i) i F2 A2 (by omega) nx
  have two : many = 2 → ¬ few many kind n f → ∀ (m i : Nat) (F1 : Nat → Int32) (A1 : Nat → Nat → Int32), flN kind n f - i < m → i ≤ flN kind n f → F1 0 = nI 0 → F1 4 = nI n → F1 58 = nI many → frm [0, 4, 5, 20, 24, 25, 58] F0 F1 → frm [6, 21, 22, 23, 59] A A1 → LnE A1 (prs n f) → (∀ k, k < 24 → A1 6 k = f k) → (∀ b, fa2 (flV n f kind) (flN kind n f) i = some b → A1 59 0 = nI b.2.1 ∧ A1 59 1 = nI b.2.2) → Z X [some (zr 1 0), none, some (zi (nI kind)), some (zi (nI many)), some (zi (nI (flN kind n f))), some (zi (fvI (fa2 (flV n f kind) (flN kind n f) i))), some (zi (nI i)), none, none] [] [zH, zG F1 G A1 B] 0 0 114 := by
    intro e2 hnf m
    induction m with
    | zero => intro i F1 A1 hm; omega
    | succ m ih =>
      intro i F1 A1 hm hi f0 f4 f58 hF hA hE hf hb
      have hO : flO many kind n f = fa2 (flV n f kind) (flN kind n f) (flN kind n f) := by unfold flO; rw [if_neg (by omega), if_neg (by omega)]
      have hB0 := fa2_B (N := flN kind n f) (flV_le n f kind) i
      have inn : i < flN kind n f → ∀ (u j : Nat) (F2 : Nat → Int32) (A2 : Nat → Nat → Int32), flN kind n f - j < u → i < j → j ≤ flN kind n f → F2 0 = nI 0 → F2 4 = nI n → F2 58 = nI many → frm [0, 4, 5, 20, 24, 25, 58] F0 F2 → frm [6, 21, 22, 23, 59] A A2 → LnE A2 (prs n f) → (∀ k, k < 24 → A2 6 k = f k) → (∀ b, faR (flV n f kind) i (fa2 (flV n f kind) (flN kind n f) i) j = some b → A2 59 0 = nI b.2.1 ∧ A2 59 1 = nI b.2.2) → Z X [some (zr 1 0), none, some (zi (nI kind)), some (zi (nI many)), some (zi (nI (flN kind n f))), some (zi (fvI (faR (flV n f kind) i (fa2 (flV n f kind) (flN kind n f) i) j))), some (zi (nI i)), some (zi (nI j)), none] [] [zH, zG F2 G A2 B] 0 0 141 := by
        intro hiN u
        induction u with
        | zero => intro j F2 A2 hu; omega
        | succ u ih2 =>
          intro j F2 A2 hu hij hj k0 k4 k58 kF kA kE kf kb
          refine z_iload F dX6_falls_141 rfl ?_
          refine z_iload_n F dX6_falls_143 rfl ?_
          refine z_iconst F (nI 1) dX6_falls_144 rfl ?_
          refine z_icmp_neN F (by omega) (by omega) (tgt := 155) dX6_falls_145 (by decide) (fun c_145 => ?_) (fun c_145 => ?_)
          · refine z_iload F dX6_falls_155 rfl ?_
            refine z_icmp_geN F (by omega) (by omega) (tgt := 207) dX6_falls_157 (by decide) (fun c_157 => ?_) (fun c_157 => ?_)
            · have ej : j = flN kind n f := by omega
              subst ej
              refine z_iincN F 1 dX6_falls_207 rfl rfl ?_
              refine z_leq (L' := [_, _, _, _, _, _, _, _, _]) rfl ?_
              refine z_goto F (tgt := 114) dX6_falls_210 (by decide) ?_
              refine z_loc _ ?_ (ih (i + 1) F2 A2 (by omega) (by omega) k0 k4 k58 kF kA kE kf kb)
              exact ⟨rfl, rfl, rfl, rfl, rfl, rfl, trivial⟩
            · refine body _ i j F2 A2 (faR_B (flV_le n f kind) hB0 j hj) hiN (by omega) k0 k4 k58 kF kA kE kf kb (fun F3 A3 l0 l4 l58 lF lA lE lf lb => ?_)
              have ex : faR (flV n f kind) i (fa2 (flV n f kind) (flN kind n f) i) (j + 1) = fax (faR (flV n f kind) i (fa2 (flV n f kind) (flN kind n f) i) j) (flV n f kind i j) i j := if_pos hij
              have nx := ih2 (j + 1) F3 A3 (by omega) (by omega) (by omega) l0 l4 l58 lF lA lE lf (by rw [ex]; exact lb)
              rw [ex] at nx
              exact nx
          · exact absurd c_145 (by omega)
      refine z_iload F dX6_falls_114 rfl ?_
      refine z_iload F dX6_falls_116 rfl ?_
      refine z_icmp_geN F (by omega) (by omega) (tgt := 213) dX6_falls_118 (by decide) (fun c_118 => ?_) (fun c_118 => ?_)
      · have ei : i = flN kind n f := by omega
        subst ei
        refine z_loc _ ?_ (end_ _ F1 A1 hnf hO f0 f58 hF hA (fun b e => ⟨fun _ => (hb b e).1, fun _ => (hb b e).2⟩))
        exact ⟨rfl, trivial⟩
      · refine z_iload_n F dX6_falls_121 rfl ?_
        refine z_if_leN F (by omega) (tgt := 213) dX6_falls_122 (by decide) (fun c_122 => ?_) (fun c_122 => ?_)
        · exact absurd c_122 (by omega)
        · refine z_iload_n F dX6_falls_125 rfl ?_
          refine z_iconst F (nI 1) dX6_falls_126 rfl ?_
          refine z_icmp_neN F (by omega) (by omega) (tgt := 135) dX6_falls_127 (by decide) (fun c_127 => ?_) (fun c_127 => ?_)
          · refine z_iload F dX6_falls_135 rfl ?_
            refine z_iconst F (nI 1) dX6_falls_137 rfl ?_
            refine z_iaddN F dX6_falls_138 ?_
            refine z_istore F dX6_falls_139 (Nat.le_of_ble_eq_true rfl) ?_
            refine z_leq (L' := [_, _, _, _, _, _, _, _, _]) rfl ?_
            have e9 := faR_ge (val := flV n f kind) (i := i) (o := fa2 (flV n f kind) (flN kind n f) i) (i + 1) (Nat.le_refl _)
            have nx := inn (by omega) (flN kind n f + 1) (i + 1) F1 A1 (by omega) (by omega) (by omega) f0 f4 f58 hF hA hE hf (by rw [e9]; exact hb)
            rw [e9] at nx
            exact nx
          · exact absurd c_127 (by omega)
  have at88 : ¬ few many kind n f → ∀ (F1 : Nat → Int32) (A1 : Nat → Nat → Int32), F1 0 = nI 0 → F1 4 = nI n → frm [0, 4, 5, 20, 24, 25, 58] F0 F1 → frm [6, 21, 22, 23, 59] A A1 → LnE A1 (prs n f) → (∀ k, k < 24 → A1 6 k = f k) → Z X [some (zr 1 0), none, some (zi (nI kind)), some (zi (nI many)), some (zi (nI (flN kind n f))), none, none, none, none] [] [zH, zG F1 G A1 B] 0 0 88 := by
    intro hnf F1 A1 f0 f4 hF hA hE hf
    have zero : ∀ (F2 : Nat → Int32) (A2 : Nat → Nat → Int32), many = 0 → F2 0 = nI 0 → F2 58 = nI many → frm [0, 4, 5, 20, 24, 25, 58] F0 F2 → frm [6, 21, 22, 23, 59] A A2 → Z X [some (zr 1 0), none, some (zi (nI kind)), some (zi (nI many)), some (zi (nI (flN kind n f))), some (zi (nI (cfar n f (allB n)))), some (zi (nI 0)), none, none] [] [zH, zG F2 G A2 B] 0 0 114 := by
      intro F2 A2 e0 k0 k58 kF kA
      have hO : flO many kind n f = some (cfar n f (allB n), 0, 0) := if_pos e0
      refine z_iload F dX6_falls_114 rfl ?_
      refine z_iload F dX6_falls_116 rfl ?_
      refine z_icmp_geN F (by omega) (by omega) (tgt := 213) dX6_falls_118 (by decide) (fun c_118 => ?_) (fun c_118 => ?_)
      · refine z_loc _ ?_ (end_ _ F2 A2 hnf hO k0 k58 kF kA (fun b e => ⟨fun z => by omega, fun z => by omega⟩))
        exact ⟨rfl, trivial⟩
      · refine z_iload_n F dX6_falls_121 rfl ?_
        refine z_if_leN F (by omega) (tgt := 213) dX6_falls_122 (by decide) (fun c_122 => ?_) (fun c_122 => ?_)
        · refine z_loc _ ?_ (end_ _ F2 A2 hnf hO k0 k58 kF kA (fun b e => ⟨fun z => by omega, fun z => by omega⟩))
          exact ⟨rfl, trivial⟩
        · exact absurd c_122 (by omega)
    refine z_iload_n F dX6_falls_88 rfl ?_
    refine z_if_neN F (by omega) (tgt := 103) dX6_falls_89 (by decide) (fun c_89 => ?_) (fun c_89 => ?_)
    · refine z_iconst F (-1) dX6_falls_103 rfl ?_
      refine z_istore F dX6_falls_104 (Nat.le_of_ble_eq_true rfl) ?_
      refine z_leq (L' := [_, _, _, _, _, _, _, _, _]) rfl ?_
      refine z_aload_n F dX6_falls_106 rfl ?_
      refine z_iload_n F dX6_falls_107 rfl ?_
      refine z_pmi F rfl 58 rfl (Nat.le_of_ble_eq_true rfl) rfl q1538 rfl rfl rfl dX6_falls_108 ?_
      refine z_weq (w' := [_, _]) rfl ?_
      refine z_iconst F (nI 0) dX6_falls_111 rfl ?_
      refine z_istore F dX6_falls_112 (Nat.le_of_ble_eq_true rfl) ?_
      refine z_leq (L' := [_, _, _, _, _, _, _, _, _]) rfl ?_
      rcases (show many = 1 ∨ many = 2 by omega) with e1 | e2
      · exact one e1 hnf (flN kind n f + 1) 0 (upd F1 58 (nI many)) A1 (by omega) (by omega) (by rw [upd_at, if_neg (by decide)]; exact f0) (by rw [upd_at, if_neg (by decide)]; exact f4) rfl (frm_upd hF (by decide)) hA hE hf (fun b e => by cases e)
      · exact two e2 hnf (flN kind n f + 1) 0 (upd F1 58 (nI many)) A1 (by omega) (by omega) (by rw [upd_at, if_neg (by decide)]; exact f0) (by rw [upd_at, if_neg (by decide)]; exact f4) rfl (frm_upd hF (by decide)) hA hE hf (fun b e => by cases e)
    · refine z_aload_n F dX6_falls_92 rfl ?_
      refine z_aload_n F dX6_falls_93 rfl ?_
      refine z_callV F (c_mall F1 G A1 B n hn f4) 0 rfl (lw_V q1880 q1882 qs63 q117 q1883) (by decide +kernel) ⟨Nat.le_of_ble_eq_true rfl, Nat.le_of_ble_eq_true rfl⟩ ⟨by omega, by omega⟩ [0, 1] 2 ⟨rfl, rfl, rfl, ⟨Or.inl rfl, Or.inr rfl, trivial⟩⟩ (fun h => nomatch h) (Nat.le_of_ble_eq_true rfl) ⟨⟨Or.inr trivial, Or.inl rfl, trivial⟩, rfl, rfl, rfl, Nat.le_of_ble_eq_true rfl⟩ rfl zC6 (zat_G0 rfl) rfl dX6_falls_94 (fun r_94 w_94 hp => ?_) (fun _ _ h => h.elim)
      obtain ⟨rfl, rfl⟩ := hp
      refine z_weq (w' := [zH, zG _ _ _ _]) rfl ?_
      refine z_seq (S' := zi _ :: _) rfl ?_
      refine z_callV F (c_mfarOf F1 G A1 B n d f (allB n) h (al_lt hn) f4 (fun k hk => hf k (by omega))) 1 rfl (lw_V q2027 q2029 qs86 q117 q2030) (by decide +kernel) ⟨Nat.le_of_ble_eq_true rfl, Nat.le_of_ble_eq_true rfl⟩ ⟨by omega, by omega⟩ [0, 1] 2 ⟨rfl, rfl, rfl, ⟨Or.inl rfl, Or.inr rfl, trivial⟩⟩ (fun h => nomatch h) (Nat.le_of_ble_eq_true rfl) ⟨⟨Or.inr trivial, Or.inl rfl, trivial⟩, rfl, rfl, rfl, Nat.le_of_ble_eq_true rfl⟩ rfl zC6 (zat_G0 rfl) rfl dX6_falls_97 (fun r_97 w_97 hp => ?_) (fun _ _ h => h.elim)
      obtain ⟨rfl, F2, A2, rfl, g1, g2⟩ := hp
      refine z_weq (w' := [zH, zG _ _ _ _]) rfl ?_
      refine z_seq (S' := zi _ :: _) rfl ?_
      refine z_goto F (tgt := 104) dX6_falls_100 (by decide) ?_
      refine z_istore F dX6_falls_104 (Nat.le_of_ble_eq_true rfl) ?_
      refine z_leq (L' := [_, _, _, _, _, _, _, _, _]) rfl ?_
      refine z_aload_n F dX6_falls_106 rfl ?_
      refine z_iload_n F dX6_falls_107 rfl ?_
      refine z_pmi F rfl 58 rfl (Nat.le_of_ble_eq_true rfl) rfl q1538 rfl rfl rfl dX6_falls_108 ?_
      refine z_weq (w' := [_, _]) rfl ?_
      refine z_iconst F (nI 0) dX6_falls_111 rfl ?_
      refine z_istore F dX6_falls_112 (Nat.le_of_ble_eq_true rfl) ?_
      refine z_leq (L' := [_, _, _, _, _, _, _, _, _]) rfl ?_
      exact zero (upd F2 58 (nI many)) A2 (by omega) (by rw [upd_at, if_neg (by decide), g1.at 0 rfl]; exact f0) rfl (frm_upd (hF.tr g1 (by decide) (by decide)) (by decide)) (hA.tr g2 (by decide) (by decide))
  have at65 : ∀ (v : Int32) (F1 : Nat → Int32) (A1 : Nat → Nat → Int32), v = nI (flN kind n f) → F1 0 = nI 0 → F1 4 = nI n → F1 58 = F0 58 → A1 59 = A 59 → frm [0, 4, 5, 20, 24, 25, 58] F0 F1 → frm [6, 21, 22, 23, 59] A A1 → LnE A1 (prs n f) → (∀ k, k < 24 → A1 6 k = f k) → Z X [some (zr 1 0), none, some (zi (nI kind)), some (zi (nI many)), none, none, none, none, none] [zi v] [zH, zG F1 G A1 B] 0 0 65 := by
    intro v F1 A1 hv f0 f4 f58 a59 hF hA hE hf
    subst hv
    refine z_istore F dX6_falls_65 (Nat.le_of_ble_eq_true rfl) ?_
    refine z_leq (L' := [_, _, _, _, _, _, _, _, _]) rfl ?_
    refine z_iload_n F dX6_falls_67 rfl ?_
    refine z_iload F dX6_falls_68 rfl ?_
    refine z_icmp_gtN F (by omega) (by omega) (tgt := 86) dX6_falls_70 (by decide) (fun c_70 => ?_) (fun c_70 => ?_)
    · refine z_iconst F (-1) dX6_falls_86 rfl ?_
      exact z_iret F E rfl dX6_falls_87 (by omega) (by omega) (⟨F1, A1, rfl, f0, hF, hA, Or.inl ⟨Or.inl (by omega), rfl, f58, a59⟩⟩)
    · refine z_iload_n F dX6_falls_73 rfl ?_
      refine z_iconst F (nI 1) dX6_falls_74 rfl ?_
      refine z_icmp_neN F (by omega) (by omega) (tgt := 88) dX6_falls_75 (by decide) (fun c_75 => ?_) (fun c_75 => ?_)
      · exact at88 (fun z => z.elim (fun z => by omega) (fun z => by omega)) F1 A1 f0 f4 hF hA hE hf
      · refine z_iload_n F dX6_falls_78 rfl ?_
        refine z_aload_n F dX6_falls_79 rfl ?_
        refine z_mi F rfl 4 rfl (Nat.le_of_ble_eq_true rfl) rfl q1484 dX6_falls_80 ?_
        refine z_ieq (f4) ?_
        refine z_icmp_neN F (by omega) (by omega) (tgt := 88) dX6_falls_83 (by decide) (fun c_83 => ?_) (fun c_83 => ?_)
        · exact at88 (fun z => z.elim (fun z => by omega) (fun z => by omega)) F1 A1 f0 f4 hF hA hE hf
        · refine z_iconst F (-1) dX6_falls_86 rfl ?_
          exact z_iret F E rfl dX6_falls_87 (by omega) (by omega) (⟨F1, A1, rfl, f0, hF, hA, Or.inl ⟨Or.inr ⟨by omega, by omega⟩, rfl, f58, a59⟩⟩)
  refine z_aload_n F dX6_falls_0 rfl ?_
  refine z_iload_n F dX6_falls_1 rfl ?_
  refine z_callV F (c_lays_ok _ _ _ _ s n (nI d) f hs8 (by omega) hn hs) 1 rfl (lw_V q1732 q1734 qs42 q117 q1735) (by decide +kernel) ⟨Nat.le_of_ble_eq_true rfl, Nat.le_of_ble_eq_true rfl⟩ ⟨by omega, by omega⟩ [0, 1] 2 ⟨rfl, rfl, rfl, ⟨Or.inl rfl, Or.inr rfl, trivial⟩⟩ (fun h => nomatch h) (Nat.le_of_ble_eq_true rfl) ⟨⟨Or.inr trivial, Or.inl rfl, trivial⟩, rfl, rfl, rfl, Nat.le_of_ble_eq_true rfl⟩ rfl zC6 (zat_G0 rfl) rfl dX6_falls_2 (fun r_2 w_2 hp => ?_) (fun _ _ h => h.elim)
  obtain ⟨rfl, F1, A1, rfl, f0, f1, f2, f3⟩ := hp
  refine z_weq (w' := [zH, zG _ _ _ _]) rfl ?_
  refine z_seq (S' := zi _ :: _) rfl ?_
  refine z_if_eqB F (tgt := 44) dX6_falls_5 (by decide) (fun c_5 => ?_) (fun c_5 => ?_)
  · cases c_5
  · refine z_aload_n F dX6_falls_8 rfl ?_
    refine z_iload_n F dX6_falls_9 rfl ?_
    refine z_if_eqN F (by omega) (tgt := 18) dX6_falls_10 (by decide) (fun c_10 => ?_) (fun c_10 => ?_)
    · refine z_iconstB F true dX6_falls_18 rfl ?_
      refine z_goto F (tgt := 23) dX6_falls_19 (by decide) ?_
      refine z_iconst F (nI 1) dX6_falls_23 rfl ?_
      refine z_callV F (c_right _ _ _ _ true 1 f0 (by omega) (by omega)) 2 rfl (lw_V q1736 q1738 qs43 q117 q1739) (by decide +kernel) ⟨Nat.le_of_ble_eq_true rfl, Nat.le_of_ble_eq_true rfl⟩ ⟨by omega, by omega⟩ [0, 1] 2 ⟨rfl, rfl, rfl, ⟨Or.inl rfl, Or.inr rfl, trivial⟩⟩ (fun h => nomatch h) (Nat.le_of_ble_eq_true rfl) ⟨⟨Or.inr trivial, Or.inl rfl, trivial⟩, rfl, rfl, rfl, Nat.le_of_ble_eq_true rfl⟩ rfl zC6 (zat_G0 rfl) rfl dX6_falls_24 (fun r_24 w_24 hp => ?_) (fun _ _ h => h.elim)
      obtain ⟨rfl, rfl⟩ := hp
      refine z_weq (w' := [zH, zG _ _ _ _]) rfl ?_
      refine z_seq (S' := zi _ :: _) rfl ?_
      refine z_if_eqB F (tgt := 44) dX6_falls_27 (by decide) (fun c_27 => ?_) (fun c_27 => ?_)
      · cases c_27
      · refine z_aload_n F dX6_falls_30 rfl ?_
        refine z_iload_n F dX6_falls_31 rfl ?_
        refine z_iconst F (nI 0) dX6_falls_32 rfl ?_
        refine z_iconst F (nI 2) dX6_falls_33 rfl ?_
        refine z_callS F (c_within (nI many) (nI 0) (nI 2)) 3 rfl (lw_S q1717 q1718 q117 q1719) (by decide +kernel) ⟨Nat.le_of_ble_eq_true rfl, Nat.le_of_ble_eq_true rfl⟩ ⟨by omega, by omega⟩ [0] 2 ⟨rfl, rfl, rfl, ⟨Or.inl rfl, trivial⟩⟩ (fun h => nomatch h) (Nat.le_of_ble_eq_true rfl) ⟨⟨Or.inr trivial, Or.inr trivial, trivial⟩, rfl, rfl, rfl, Nat.le_of_ble_eq_true rfl⟩ rfl rfl dX6_falls_34 (fun r_34 w_34 hp => ?_) (fun _ _ h => h.elim)
        obtain ⟨rfl, rfl⟩ := hp
        refine z_weq (w' := [zH, zG _ _ _ _]) rfl ?_
        refine z_seq (S' := zi _ :: _) rfl ?_
        rw [show inB (nI many) (nI 0) (nI 2) = true from inB_n (by omega) (by omega) (by omega)]
        refine z_iconst F (nI 2) dX6_falls_37 rfl ?_
        refine z_callV F (c_right _ _ _ _ true 2 f0 (by omega) (by omega)) 2 rfl (lw_V q1736 q1738 qs43 q117 q1739) (by decide +kernel) ⟨Nat.le_of_ble_eq_true rfl, Nat.le_of_ble_eq_true rfl⟩ ⟨by omega, by omega⟩ [0, 1] 2 ⟨rfl, rfl, rfl, ⟨Or.inl rfl, Or.inr rfl, trivial⟩⟩ (fun h => nomatch h) (Nat.le_of_ble_eq_true rfl) ⟨⟨Or.inr trivial, Or.inl rfl, trivial⟩, rfl, rfl, rfl, Nat.le_of_ble_eq_true rfl⟩ rfl zC6 (zat_G0 rfl) rfl dX6_falls_38 (fun r_38 w_38 hp => ?_) (fun _ _ h => h.elim)
        obtain ⟨rfl, rfl⟩ := hp
        refine z_weq (w' := [zH, zG _ _ _ _]) rfl ?_
        refine z_seq (S' := zi _ :: _) rfl ?_
        refine z_if_neB F (tgt := 46) dX6_falls_41 (by decide) (fun c_41 => ?_) (fun c_41 => ?_)
        · refine z_aload_n F dX6_falls_46 rfl ?_
          refine z_callV F (c_lists F1 _ _ _ n f hn h96 f3.1 (fun k hk => f3.2.2 k (by omega))) 0 rfl (lw_V q1868 q1870 qs62 q117 q1871) (by decide +kernel) ⟨Nat.le_of_ble_eq_true rfl, Nat.le_of_ble_eq_true rfl⟩ ⟨by omega, by omega⟩ [0, 1] 2 ⟨rfl, rfl, rfl, ⟨Or.inl rfl, Or.inr rfl, trivial⟩⟩ (fun h => nomatch h) (Nat.le_of_ble_eq_true rfl) ⟨⟨Or.inr trivial, Or.inl rfl, trivial⟩, rfl, rfl, rfl, Nat.le_of_ble_eq_true rfl⟩ rfl zC6 (zat_G0 rfl) rfl dX6_falls_47 (fun r_47 w_47 hp => ?_) (fun _ _ h => h.elim)
          obtain ⟨rfl, A2, rfl, g1, g2⟩ := hp
          refine z_weq (w' := [zH, zG _ _ _ _]) rfl ?_
          refine z_seq (S' := []) rfl ?_
          refine z_iload_n F dX6_falls_50 rfl ?_
          refine z_if_neN F (by omega) (tgt := 61) dX6_falls_51 (by decide) (fun c_51 => ?_) (fun c_51 => ?_)
          · refine z_aload_n F dX6_falls_61 rfl ?_
            refine z_mi F rfl 4 rfl (Nat.le_of_ble_eq_true rfl) rfl q1484 dX6_falls_62 ?_
            refine z_ieq (f3.1) ?_
            refine z_loc _ ?_ (at65 (nI n) (upd F1 20 (nI (prs n f).length)) A2 (by rw [flN, if_neg (by omega)]) (by rw [upd_at, if_neg (by decide)]; exact f0) (by rw [upd_at, if_neg (by decide)]; exact f3.1) (by rw [upd_at, if_neg (by decide), f1.at 58 rfl]) (by rw [g1.at 59 rfl, f2.at 59 rfl]) (frm_upd (f1.to (by decide)) (by decide)) (f2.tr g1 (by decide) (by decide)) g2 (fun k hk => by rw [g1.at 6 rfl]; exact f3.2.2 k hk))
            exact ⟨rfl, rfl, rfl, trivial⟩
          · refine z_aload_n F dX6_falls_54 rfl ?_
            refine z_mi F rfl 20 rfl (Nat.le_of_ble_eq_true rfl) rfl q1500 dX6_falls_55 ?_
            refine z_ieq ((rfl : upd F1 20 (nI (prs n f).length) 20 = nI (prs n f).length)) ?_
            refine z_goto F (tgt := 65) dX6_falls_58 (by decide) ?_
            refine z_loc _ ?_ (at65 (nI (prs n f).length) (upd F1 20 (nI (prs n f).length)) A2 (by rw [flN, if_pos (by omega)]) (by rw [upd_at, if_neg (by decide)]; exact f0) (by rw [upd_at, if_neg (by decide)]; exact f3.1) (by rw [upd_at, if_neg (by decide), f1.at 58 rfl]) (by rw [g1.at 59 rfl, f2.at 59 rfl]) (frm_upd (f1.to (by decide)) (by decide)) (f2.tr g1 (by decide) (by decide)) g2 (fun k hk => by rw [g1.at 6 rfl]; exact f3.2.2 k hk))
            exact ⟨rfl, rfl, rfl, trivial⟩
        · cases c_41
    · refine z_iload_n F dX6_falls_13 rfl ?_
      refine z_iconst F (nI 1) dX6_falls_14 rfl ?_
      refine z_icmp_neN F (by omega) (by omega) (tgt := 22) dX6_falls_15 (by decide) (fun c_15 => ?_) (fun c_15 => ?_)
      · exact absurd c_15 (by omega)
      · refine z_iconstB F true dX6_falls_18 rfl ?_
        refine z_goto F (tgt := 23) dX6_falls_19 (by decide) ?_
        refine z_iconst F (nI 1) dX6_falls_23 rfl ?_
        refine z_callV F (c_right _ _ _ _ true 1 f0 (by omega) (by omega)) 2 rfl (lw_V q1736 q1738 qs43 q117 q1739) (by decide +kernel) ⟨Nat.le_of_ble_eq_true rfl, Nat.le_of_ble_eq_true rfl⟩ ⟨by omega, by omega⟩ [0, 1] 2 ⟨rfl, rfl, rfl, ⟨Or.inl rfl, Or.inr rfl, trivial⟩⟩ (fun h => nomatch h) (Nat.le_of_ble_eq_true rfl) ⟨⟨Or.inr trivial, Or.inl rfl, trivial⟩, rfl, rfl, rfl, Nat.le_of_ble_eq_true rfl⟩ rfl zC6 (zat_G0 rfl) rfl dX6_falls_24 (fun r_24 w_24 hp => ?_) (fun _ _ h => h.elim)
        obtain ⟨rfl, rfl⟩ := hp
        refine z_weq (w' := [zH, zG _ _ _ _]) rfl ?_
        refine z_seq (S' := zi _ :: _) rfl ?_
        refine z_if_eqB F (tgt := 44) dX6_falls_27 (by decide) (fun c_27 => ?_) (fun c_27 => ?_)
        · cases c_27
        · refine z_aload_n F dX6_falls_30 rfl ?_
          refine z_iload_n F dX6_falls_31 rfl ?_
          refine z_iconst F (nI 0) dX6_falls_32 rfl ?_
          refine z_iconst F (nI 2) dX6_falls_33 rfl ?_
          refine z_callS F (c_within (nI many) (nI 0) (nI 2)) 3 rfl (lw_S q1717 q1718 q117 q1719) (by decide +kernel) ⟨Nat.le_of_ble_eq_true rfl, Nat.le_of_ble_eq_true rfl⟩ ⟨by omega, by omega⟩ [0] 2 ⟨rfl, rfl, rfl, ⟨Or.inl rfl, trivial⟩⟩ (fun h => nomatch h) (Nat.le_of_ble_eq_true rfl) ⟨⟨Or.inr trivial, Or.inr trivial, trivial⟩, rfl, rfl, rfl, Nat.le_of_ble_eq_true rfl⟩ rfl rfl dX6_falls_34 (fun r_34 w_34 hp => ?_) (fun _ _ h => h.elim)
          obtain ⟨rfl, rfl⟩ := hp
          refine z_weq (w' := [zH, zG _ _ _ _]) rfl ?_
          refine z_seq (S' := zi _ :: _) rfl ?_
          rw [show inB (nI many) (nI 0) (nI 2) = true from inB_n (by omega) (by omega) (by omega)]
          refine z_iconst F (nI 2) dX6_falls_37 rfl ?_
          refine z_callV F (c_right _ _ _ _ true 2 f0 (by omega) (by omega)) 2 rfl (lw_V q1736 q1738 qs43 q117 q1739) (by decide +kernel) ⟨Nat.le_of_ble_eq_true rfl, Nat.le_of_ble_eq_true rfl⟩ ⟨by omega, by omega⟩ [0, 1] 2 ⟨rfl, rfl, rfl, ⟨Or.inl rfl, Or.inr rfl, trivial⟩⟩ (fun h => nomatch h) (Nat.le_of_ble_eq_true rfl) ⟨⟨Or.inr trivial, Or.inl rfl, trivial⟩, rfl, rfl, rfl, Nat.le_of_ble_eq_true rfl⟩ rfl zC6 (zat_G0 rfl) rfl dX6_falls_38 (fun r_38 w_38 hp => ?_) (fun _ _ h => h.elim)
          obtain ⟨rfl, rfl⟩ := hp
          refine z_weq (w' := [zH, zG _ _ _ _]) rfl ?_
          refine z_seq (S' := zi _ :: _) rfl ?_
          refine z_if_neB F (tgt := 46) dX6_falls_41 (by decide) (fun c_41 => ?_) (fun c_41 => ?_)
          · refine z_aload_n F dX6_falls_46 rfl ?_
            refine z_callV F (c_lists F1 _ _ _ n f hn h96 f3.1 (fun k hk => f3.2.2 k (by omega))) 0 rfl (lw_V q1868 q1870 qs62 q117 q1871) (by decide +kernel) ⟨Nat.le_of_ble_eq_true rfl, Nat.le_of_ble_eq_true rfl⟩ ⟨by omega, by omega⟩ [0, 1] 2 ⟨rfl, rfl, rfl, ⟨Or.inl rfl, Or.inr rfl, trivial⟩⟩ (fun h => nomatch h) (Nat.le_of_ble_eq_true rfl) ⟨⟨Or.inr trivial, Or.inl rfl, trivial⟩, rfl, rfl, rfl, Nat.le_of_ble_eq_true rfl⟩ rfl zC6 (zat_G0 rfl) rfl dX6_falls_47 (fun r_47 w_47 hp => ?_) (fun _ _ h => h.elim)
            obtain ⟨rfl, A2, rfl, g1, g2⟩ := hp
            refine z_weq (w' := [zH, zG _ _ _ _]) rfl ?_
            refine z_seq (S' := []) rfl ?_
            refine z_iload_n F dX6_falls_50 rfl ?_
            refine z_if_neN F (by omega) (tgt := 61) dX6_falls_51 (by decide) (fun c_51 => ?_) (fun c_51 => ?_)
            · refine z_aload_n F dX6_falls_61 rfl ?_
              refine z_mi F rfl 4 rfl (Nat.le_of_ble_eq_true rfl) rfl q1484 dX6_falls_62 ?_
              refine z_ieq (f3.1) ?_
              refine z_loc _ ?_ (at65 (nI n) (upd F1 20 (nI (prs n f).length)) A2 (by rw [flN, if_neg (by omega)]) (by rw [upd_at, if_neg (by decide)]; exact f0) (by rw [upd_at, if_neg (by decide)]; exact f3.1) (by rw [upd_at, if_neg (by decide), f1.at 58 rfl]) (by rw [g1.at 59 rfl, f2.at 59 rfl]) (frm_upd (f1.to (by decide)) (by decide)) (f2.tr g1 (by decide) (by decide)) g2 (fun k hk => by rw [g1.at 6 rfl]; exact f3.2.2 k hk))
              exact ⟨rfl, rfl, rfl, trivial⟩
            · refine z_aload_n F dX6_falls_54 rfl ?_
              refine z_mi F rfl 20 rfl (Nat.le_of_ble_eq_true rfl) rfl q1500 dX6_falls_55 ?_
              refine z_ieq ((rfl : upd F1 20 (nI (prs n f).length) 20 = nI (prs n f).length)) ?_
              refine z_goto F (tgt := 65) dX6_falls_58 (by decide) ?_
              refine z_loc _ ?_ (at65 (nI (prs n f).length) (upd F1 20 (nI (prs n f).length)) A2 (by rw [flN, if_pos (by omega)]) (by rw [upd_at, if_neg (by decide)]; exact f0) (by rw [upd_at, if_neg (by decide)]; exact f3.1) (by rw [upd_at, if_neg (by decide), f1.at 58 rfl]) (by rw [g1.at 59 rfl, f2.at 59 rfl]) (frm_upd (f1.to (by decide)) (by decide)) (f2.tr g1 (by decide) (by decide)) g2 (fun k hk => by rw [g1.at 6 rfl]; exact f3.2.2 k hk))
              exact ⟨rfl, rfl, rfl, trivial⟩
          · cases c_41
theorem c_mfalls_badK (F0 : Nat → Int32) (G : Nat → Int64) (A : Nat → Nat → Int32) (B : Nat → Nat → Int64) (s n d : Nat) (kind many : Int32) (f : Nat → Int32) (hs8 : s < 8) (h : nok n d f) (hs : Slt A s n (nI d) f) (hk : ¬ kind = nI 0 ∧ ¬ kind = nI 1) :
    zCtr yX6_falls cX6_falls 9 (some .int) 4 0 0 [zr 1 0, zi (nI s), zi kind, zi many] [zH, zG F0 G A B] (fun r w => r = some (zi (nI 0)) ∧ ∃ F' A', w = [zH, zG F' G A' B] ∧ F' 0 = nI 1 ∧ frm [0, 4, 5] F0 F' ∧ frm [6] A A') zNx := by
  refine z_start (by decide) [some (zr 1 0), some (zi (nI s)), some (zi kind), some (zi many), none, none, none, none, none] rfl (fun _ => Nat.le_of_ble_eq_true rfl) (fun _ => rfl) (fun X F E hno hin => ?_)
  have hn1 := h.n1
  have hn := h.n24
  refine z_aload_n F dX6_falls_0 rfl ?_
  refine z_iload_n F dX6_falls_1 rfl ?_
  refine z_callV F (c_lays_ok _ _ _ _ s n (nI d) f hs8 (by omega) hn hs) 1 rfl (lw_V q1732 q1734 qs42 q117 q1735) (by decide +kernel) ⟨Nat.le_of_ble_eq_true rfl, Nat.le_of_ble_eq_true rfl⟩ ⟨by omega, by omega⟩ [0, 1] 2 ⟨rfl, rfl, rfl, ⟨Or.inl rfl, Or.inr rfl, trivial⟩⟩ (fun h => nomatch h) (Nat.le_of_ble_eq_true rfl) ⟨⟨Or.inr trivial, Or.inl rfl, trivial⟩, rfl, rfl, rfl, Nat.le_of_ble_eq_true rfl⟩ rfl zC6 (zat_G0 rfl) rfl dX6_falls_2 (fun r_2 w_2 hp => ?_) (fun _ _ h => h.elim)
  obtain ⟨rfl, F1, A1, rfl, f0, f1, f2, f3⟩ := hp
  refine z_weq (w' := [zH, zG _ _ _ _]) rfl ?_
  refine z_seq (S' := zi _ :: _) rfl ?_
  refine z_if_eqB F (tgt := 44) dX6_falls_5 (by decide) (fun c_5 => ?_) (fun c_5 => ?_)
  · cases c_5
  · refine z_aload_n F dX6_falls_8 rfl ?_
    refine z_iload_n F dX6_falls_9 rfl ?_
    refine z_if_eq F (tgt := 18) dX6_falls_10 (by decide) (fun c_10 => ?_) (fun c_10 => ?_)
    · exact absurd c_10 hk.1
    · refine z_iload_n F dX6_falls_13 rfl ?_
      refine z_iconst F (nI 1) dX6_falls_14 rfl ?_
      refine z_icmp_ne F (tgt := 22) dX6_falls_15 (by decide) (fun c_15 => ?_) (fun c_15 => ?_)
      · refine z_iconstB F false dX6_falls_22 rfl ?_
        refine z_iconst F (nI 1) dX6_falls_23 rfl ?_
        refine z_callV F (c_right _ _ _ _ false 1 f0 (by omega) (by omega)) 2 rfl (lw_V q1736 q1738 qs43 q117 q1739) (by decide +kernel) ⟨Nat.le_of_ble_eq_true rfl, Nat.le_of_ble_eq_true rfl⟩ ⟨by omega, by omega⟩ [0, 1] 2 ⟨rfl, rfl, rfl, ⟨Or.inl rfl, Or.inr rfl, trivial⟩⟩ (fun h => nomatch h) (Nat.le_of_ble_eq_true rfl) ⟨⟨Or.inr trivial, Or.inl rfl, trivial⟩, rfl, rfl, rfl, Nat.le_of_ble_eq_true rfl⟩ rfl zC6 (zat_G0 rfl) rfl dX6_falls_24 (fun r_24 w_24 hp => ?_) (fun _ _ h => h.elim)
        obtain ⟨rfl, rfl⟩ := hp
        refine z_weq (w' := [zH, zG _ _ _ _]) rfl ?_
        refine z_seq (S' := zi _ :: _) rfl ?_
        refine z_if_eqB F (tgt := 44) dX6_falls_27 (by decide) (fun c_27 => ?_) (fun c_27 => ?_)
        · refine z_iconst F (nI 0) dX6_falls_44 rfl ?_
          exact z_iret F E rfl dX6_falls_45 (by omega) (by omega) (⟨rfl, _, A1, rfl, rfl, frm_upd f1 (by decide), f2⟩)
        · cases c_27
      · exact absurd c_15 hk.2
theorem c_mfalls_badM (F0 : Nat → Int32) (G : Nat → Int64) (A : Nat → Nat → Int32) (B : Nat → Nat → Int64) (s n d kind : Nat) (many : Int32) (f : Nat → Int32) (hs8 : s < 8) (h : nok n d f) (hs : Slt A s n (nI d) f) (hk : kind < 2) (hx : inB many (nI 0) (nI 2) = false) :
    zCtr yX6_falls cX6_falls 9 (some .int) 4 0 0 [zr 1 0, zi (nI s), zi (nI kind), zi many] [zH, zG F0 G A B] (fun r w => r = some (zi (nI 0)) ∧ ∃ F' A', w = [zH, zG F' G A' B] ∧ F' 0 = nI 2 ∧ frm [0, 4, 5] F0 F' ∧ frm [6] A A') zNx := by
  refine z_start (by decide) [some (zr 1 0), some (zi (nI s)), some (zi (nI kind)), some (zi many), none, none, none, none, none] rfl (fun _ => Nat.le_of_ble_eq_true rfl) (fun _ => rfl) (fun X F E hno hin => ?_)
  have hn1 := h.n1
  have hn := h.n24
  refine z_aload_n F dX6_falls_0 rfl ?_
  refine z_iload_n F dX6_falls_1 rfl ?_
  refine z_callV F (c_lays_ok _ _ _ _ s n (nI d) f hs8 (by omega) hn hs) 1 rfl (lw_V q1732 q1734 qs42 q117 q1735) (by decide +kernel) ⟨Nat.le_of_ble_eq_true rfl, Nat.le_of_ble_eq_true rfl⟩ ⟨by omega, by omega⟩ [0, 1] 2 ⟨rfl, rfl, rfl, ⟨Or.inl rfl, Or.inr rfl, trivial⟩⟩ (fun h => nomatch h) (Nat.le_of_ble_eq_true rfl) ⟨⟨Or.inr trivial, Or.inl rfl, trivial⟩, rfl, rfl, rfl, Nat.le_of_ble_eq_true rfl⟩ rfl zC6 (zat_G0 rfl) rfl dX6_falls_2 (fun r_2 w_2 hp => ?_) (fun _ _ h => h.elim)
  obtain ⟨rfl, F1, A1, rfl, f0, f1, f2, f3⟩ := hp
  refine z_weq (w' := [zH, zG _ _ _ _]) rfl ?_
  refine z_seq (S' := zi _ :: _) rfl ?_
  refine z_if_eqB F (tgt := 44) dX6_falls_5 (by decide) (fun c_5 => ?_) (fun c_5 => ?_)
  · cases c_5
  · refine z_aload_n F dX6_falls_8 rfl ?_
    refine z_iload_n F dX6_falls_9 rfl ?_
    refine z_if_eqN F (by omega) (tgt := 18) dX6_falls_10 (by decide) (fun c_10 => ?_) (fun c_10 => ?_)
    · refine z_iconstB F true dX6_falls_18 rfl ?_
      refine z_goto F (tgt := 23) dX6_falls_19 (by decide) ?_
      refine z_iconst F (nI 1) dX6_falls_23 rfl ?_
      refine z_callV F (c_right _ _ _ _ true 1 f0 (by omega) (by omega)) 2 rfl (lw_V q1736 q1738 qs43 q117 q1739) (by decide +kernel) ⟨Nat.le_of_ble_eq_true rfl, Nat.le_of_ble_eq_true rfl⟩ ⟨by omega, by omega⟩ [0, 1] 2 ⟨rfl, rfl, rfl, ⟨Or.inl rfl, Or.inr rfl, trivial⟩⟩ (fun h => nomatch h) (Nat.le_of_ble_eq_true rfl) ⟨⟨Or.inr trivial, Or.inl rfl, trivial⟩, rfl, rfl, rfl, Nat.le_of_ble_eq_true rfl⟩ rfl zC6 (zat_G0 rfl) rfl dX6_falls_24 (fun r_24 w_24 hp => ?_) (fun _ _ h => h.elim)
      obtain ⟨rfl, rfl⟩ := hp
      refine z_weq (w' := [zH, zG _ _ _ _]) rfl ?_
      refine z_seq (S' := zi _ :: _) rfl ?_
      refine z_if_eqB F (tgt := 44) dX6_falls_27 (by decide) (fun c_27 => ?_) (fun c_27 => ?_)
      · cases c_27
      · refine z_aload_n F dX6_falls_30 rfl ?_
        refine z_iload_n F dX6_falls_31 rfl ?_
        refine z_iconst F (nI 0) dX6_falls_32 rfl ?_
        refine z_iconst F (nI 2) dX6_falls_33 rfl ?_
        refine z_callS F (c_within many (nI 0) (nI 2)) 3 rfl (lw_S q1717 q1718 q117 q1719) (by decide +kernel) ⟨Nat.le_of_ble_eq_true rfl, Nat.le_of_ble_eq_true rfl⟩ ⟨by omega, by omega⟩ [0] 2 ⟨rfl, rfl, rfl, ⟨Or.inl rfl, trivial⟩⟩ (fun h => nomatch h) (Nat.le_of_ble_eq_true rfl) ⟨⟨Or.inr trivial, Or.inr trivial, trivial⟩, rfl, rfl, rfl, Nat.le_of_ble_eq_true rfl⟩ rfl rfl dX6_falls_34 (fun r_34 w_34 hp => ?_) (fun _ _ h => h.elim)
        obtain ⟨rfl, rfl⟩ := hp
        refine z_weq (w' := [zH, zG _ _ _ _]) rfl ?_
        refine z_seq (S' := zi _ :: _) rfl ?_
        rw [hx]
        refine z_iconst F (nI 2) dX6_falls_37 rfl ?_
        refine z_callV F (c_right _ _ _ _ false 2 f0 (by omega) (by omega)) 2 rfl (lw_V q1736 q1738 qs43 q117 q1739) (by decide +kernel) ⟨Nat.le_of_ble_eq_true rfl, Nat.le_of_ble_eq_true rfl⟩ ⟨by omega, by omega⟩ [0, 1] 2 ⟨rfl, rfl, rfl, ⟨Or.inl rfl, Or.inr rfl, trivial⟩⟩ (fun h => nomatch h) (Nat.le_of_ble_eq_true rfl) ⟨⟨Or.inr trivial, Or.inl rfl, trivial⟩, rfl, rfl, rfl, Nat.le_of_ble_eq_true rfl⟩ rfl zC6 (zat_G0 rfl) rfl dX6_falls_38 (fun r_38 w_38 hp => ?_) (fun _ _ h => h.elim)
        obtain ⟨rfl, rfl⟩ := hp
        refine z_weq (w' := [zH, zG _ _ _ _]) rfl ?_
        refine z_seq (S' := zi _ :: _) rfl ?_
        refine z_if_neB F (tgt := 46) dX6_falls_41 (by decide) (fun c_41 => ?_) (fun c_41 => ?_)
        · cases c_41
        · refine z_iconst F (nI 0) dX6_falls_44 rfl ?_
          exact z_iret F E rfl dX6_falls_45 (by omega) (by omega) (⟨rfl, _, A1, rfl, rfl, frm_upd f1 (by decide), f2⟩)
    · refine z_iload_n F dX6_falls_13 rfl ?_
      refine z_iconst F (nI 1) dX6_falls_14 rfl ?_
      refine z_icmp_neN F (by omega) (by omega) (tgt := 22) dX6_falls_15 (by decide) (fun c_15 => ?_) (fun c_15 => ?_)
      · exact absurd c_15 (by omega)
      · refine z_iconstB F true dX6_falls_18 rfl ?_
        refine z_goto F (tgt := 23) dX6_falls_19 (by decide) ?_
        refine z_iconst F (nI 1) dX6_falls_23 rfl ?_
        refine z_callV F (c_right _ _ _ _ true 1 f0 (by omega) (by omega)) 2 rfl (lw_V q1736 q1738 qs43 q117 q1739) (by decide +kernel) ⟨Nat.le_of_ble_eq_true rfl, Nat.le_of_ble_eq_true rfl⟩ ⟨by omega, by omega⟩ [0, 1] 2 ⟨rfl, rfl, rfl, ⟨Or.inl rfl, Or.inr rfl, trivial⟩⟩ (fun h => nomatch h) (Nat.le_of_ble_eq_true rfl) ⟨⟨Or.inr trivial, Or.inl rfl, trivial⟩, rfl, rfl, rfl, Nat.le_of_ble_eq_true rfl⟩ rfl zC6 (zat_G0 rfl) rfl dX6_falls_24 (fun r_24 w_24 hp => ?_) (fun _ _ h => h.elim)
        obtain ⟨rfl, rfl⟩ := hp
        refine z_weq (w' := [zH, zG _ _ _ _]) rfl ?_
        refine z_seq (S' := zi _ :: _) rfl ?_
        refine z_if_eqB F (tgt := 44) dX6_falls_27 (by decide) (fun c_27 => ?_) (fun c_27 => ?_)
        · cases c_27
        · refine z_aload_n F dX6_falls_30 rfl ?_
          refine z_iload_n F dX6_falls_31 rfl ?_
          refine z_iconst F (nI 0) dX6_falls_32 rfl ?_
          refine z_iconst F (nI 2) dX6_falls_33 rfl ?_
          refine z_callS F (c_within many (nI 0) (nI 2)) 3 rfl (lw_S q1717 q1718 q117 q1719) (by decide +kernel) ⟨Nat.le_of_ble_eq_true rfl, Nat.le_of_ble_eq_true rfl⟩ ⟨by omega, by omega⟩ [0] 2 ⟨rfl, rfl, rfl, ⟨Or.inl rfl, trivial⟩⟩ (fun h => nomatch h) (Nat.le_of_ble_eq_true rfl) ⟨⟨Or.inr trivial, Or.inr trivial, trivial⟩, rfl, rfl, rfl, Nat.le_of_ble_eq_true rfl⟩ rfl rfl dX6_falls_34 (fun r_34 w_34 hp => ?_) (fun _ _ h => h.elim)
          obtain ⟨rfl, rfl⟩ := hp
          refine z_weq (w' := [zH, zG _ _ _ _]) rfl ?_
          refine z_seq (S' := zi _ :: _) rfl ?_
          rw [hx]
          refine z_iconst F (nI 2) dX6_falls_37 rfl ?_
          refine z_callV F (c_right _ _ _ _ false 2 f0 (by omega) (by omega)) 2 rfl (lw_V q1736 q1738 qs43 q117 q1739) (by decide +kernel) ⟨Nat.le_of_ble_eq_true rfl, Nat.le_of_ble_eq_true rfl⟩ ⟨by omega, by omega⟩ [0, 1] 2 ⟨rfl, rfl, rfl, ⟨Or.inl rfl, Or.inr rfl, trivial⟩⟩ (fun h => nomatch h) (Nat.le_of_ble_eq_true rfl) ⟨⟨Or.inr trivial, Or.inl rfl, trivial⟩, rfl, rfl, rfl, Nat.le_of_ble_eq_true rfl⟩ rfl zC6 (zat_G0 rfl) rfl dX6_falls_38 (fun r_38 w_38 hp => ?_) (fun _ _ h => h.elim)
          obtain ⟨rfl, rfl⟩ := hp
          refine z_weq (w' := [zH, zG _ _ _ _]) rfl ?_
          refine z_seq (S' := zi _ :: _) rfl ?_
          refine z_if_neB F (tgt := 46) dX6_falls_41 (by decide) (fun c_41 => ?_) (fun c_41 => ?_)
          · cases c_41
          · refine z_iconst F (nI 0) dX6_falls_44 rfl ?_
            exact z_iret F E rfl dX6_falls_45 (by omega) (by omega) (⟨rfl, _, A1, rfl, rfl, frm_upd f1 (by decide), f2⟩)
theorem c_mfallen_ok (F0 : Nat → Int32) (G : Nat → Int64) (A : Nat → Nat → Int32) (B : Nat → Nat → Int64) (i m : Nat) (hm : m < 3) (h58 : F0 58 = nI m) (hi : i < m) :
    zCtr yX6_fallen cX6_fallen 2 (some .int) 1 0 0 [zr 1 0, zi (nI i)] [zH, zG F0 G A B] (fun r w => r = some (zi (A 59 i)) ∧ w = [zH, zG (upd F0 0 (nI 0)) G A B]) zNx := by
  refine z_start (by decide) [some (zr 1 0), some (zi (nI i))] rfl (fun _ => Nat.le_of_ble_eq_true rfl) (fun _ => rfl) (fun X F E hno hin => ?_)
  have e58 : upd F0 0 (nI 0) 58 = nI m := by rw [upd_at, if_neg (by decide)]; exact h58
  refine z_aload_n F dX6_fallen_0 rfl ?_
  refine z_iconst F (nI 0) dX6_fallen_1 rfl ?_
  refine z_pmi F rfl 0 rfl (Nat.le_of_ble_eq_true rfl) rfl q1480 rfl rfl rfl dX6_fallen_2 ?_
  refine z_weq (w' := [_, _]) rfl ?_
  refine z_aload_n F dX6_fallen_5 rfl ?_
  refine z_iload_n F dX6_fallen_6 rfl ?_
  refine z_if_ltN F (by omega) (tgt := 22) dX6_fallen_7 (by decide) (fun c_7 => ?_) (fun c_7 => ?_)
  · exact absurd c_7 (by omega)
  · refine z_iload_n F dX6_fallen_10 rfl ?_
    refine z_aload_n F dX6_fallen_11 rfl ?_
    refine z_mi F rfl 58 rfl (Nat.le_of_ble_eq_true rfl) rfl q1538 dX6_fallen_12 ?_
    refine z_ieq (e58) ?_
    refine z_icmp_geN F (by omega) (by omega) (tgt := 22) dX6_fallen_15 (by decide) (fun c_15 => ?_) (fun c_15 => ?_)
    · exact absurd c_15 (by omega)
    · refine z_iconstB F true dX6_fallen_18 rfl ?_
      refine z_goto F (tgt := 23) dX6_fallen_19 (by decide) ?_
      refine z_iconst F (nI 1) dX6_fallen_23 rfl ?_
      refine z_callV F (c_right (upd F0 0 (nI 0)) _ _ _ true 1 rfl (by omega) (by omega)) 2 rfl (lw_V q1736 q1738 qs43 q117 q1739) (by decide +kernel) ⟨Nat.le_of_ble_eq_true rfl, Nat.le_of_ble_eq_true rfl⟩ ⟨by omega, by omega⟩ [0, 1] 2 ⟨rfl, rfl, rfl, ⟨Or.inl rfl, Or.inr rfl, trivial⟩⟩ (fun h => nomatch h) (Nat.le_of_ble_eq_true rfl) ⟨⟨Or.inr trivial, Or.inl rfl, trivial⟩, rfl, rfl, rfl, Nat.le_of_ble_eq_true rfl⟩ rfl zC6 (zat_G0 rfl) rfl dX6_fallen_24 (fun r_24 w_24 hp => ?_) (fun _ _ h => h.elim)
      obtain ⟨rfl, rfl⟩ := hp
      refine z_weq (w' := [zH, zG _ _ _ _]) rfl ?_
      refine z_seq (S' := zi _ :: _) rfl ?_
      refine z_if_eqB F (tgt := 39) dX6_fallen_27 (by decide) (fun c_27 => ?_) (fun c_27 => ?_)
      · cases c_27
      · refine z_aload_n F dX6_fallen_30 rfl ?_
        refine z_ma F rfl 59 rfl (Nat.le_of_ble_eq_true rfl) rfl q1539 dX6_fallen_31 ?_
        refine z_iload_n F dX6_fallen_34 rfl ?_
        refine z_ialdGN F rfl rfl (Nat.le_of_ble_eq_true rfl) (by omega) rfl dX6_fallen_35 ?_
        refine z_goto F (tgt := 40) dX6_fallen_36 (by decide) ?_
        exact z_iret F E rfl dX6_fallen_40 (by omega) (by omega) (⟨rfl, rfl⟩)
theorem c_mfallen_bad (F0 : Nat → Int32) (G : Nat → Int64) (A : Nat → Nat → Int32) (B : Nat → Nat → Int64) (x : Int32) (m : Nat) (hm : m < 3) (h58 : F0 58 = nI m) (hx : ∀ i, i < m → ¬ x = nI i) :
    zCtr yX6_fallen cX6_fallen 2 (some .int) 1 0 0 [zr 1 0, zi x] [zH, zG F0 G A B] (fun r w => r = some (zi (nI 0)) ∧ w = [zH, zG (upd F0 0 (nI 1)) G A B]) zNx := by
  refine z_start (by decide) [some (zr 1 0), some (zi x)] rfl (fun _ => Nat.le_of_ble_eq_true rfl) (fun _ => rfl) (fun X F E hno hin => ?_)
  have e58 : upd F0 0 (nI 0) 58 = nI m := by rw [upd_at, if_neg (by decide)]; exact h58
  refine z_aload_n F dX6_fallen_0 rfl ?_
  refine z_iconst F (nI 0) dX6_fallen_1 rfl ?_
  refine z_pmi F rfl 0 rfl (Nat.le_of_ble_eq_true rfl) rfl q1480 rfl rfl rfl dX6_fallen_2 ?_
  refine z_weq (w' := [_, _]) rfl ?_
  refine z_aload_n F dX6_fallen_5 rfl ?_
  refine z_iload_n F dX6_fallen_6 rfl ?_
  refine z_if_lt F (tgt := 22) dX6_fallen_7 (by decide) (fun c_7 => ?_) (fun c_7 => ?_)
  · refine z_iconstB F false dX6_fallen_22 rfl ?_
    refine z_iconst F (nI 1) dX6_fallen_23 rfl ?_
    refine z_callV F (c_right (upd F0 0 (nI 0)) _ _ _ false 1 rfl (by omega) (by omega)) 2 rfl (lw_V q1736 q1738 qs43 q117 q1739) (by decide +kernel) ⟨Nat.le_of_ble_eq_true rfl, Nat.le_of_ble_eq_true rfl⟩ ⟨by omega, by omega⟩ [0, 1] 2 ⟨rfl, rfl, rfl, ⟨Or.inl rfl, Or.inr rfl, trivial⟩⟩ (fun h => nomatch h) (Nat.le_of_ble_eq_true rfl) ⟨⟨Or.inr trivial, Or.inl rfl, trivial⟩, rfl, rfl, rfl, Nat.le_of_ble_eq_true rfl⟩ rfl zC6 (zat_G0 rfl) rfl dX6_fallen_24 (fun r_24 w_24 hp => ?_) (fun _ _ h => h.elim)
    obtain ⟨rfl, rfl⟩ := hp
    refine z_weq (w' := [zH, zG _ _ _ _]) rfl ?_
    refine z_seq (S' := zi _ :: _) rfl ?_
    refine z_if_eqB F (tgt := 39) dX6_fallen_27 (by decide) (fun c_27 => ?_) (fun c_27 => ?_)
    · refine z_iconst F (nI 0) dX6_fallen_39 rfl ?_
      exact z_iret F E rfl dX6_fallen_40 (by omega) (by omega) (⟨rfl, by rw [upd_upd]; rfl⟩)
    · cases c_27
  · refine z_iload_n F dX6_fallen_10 rfl ?_
    refine z_aload_n F dX6_fallen_11 rfl ?_
    refine z_mi F rfl 58 rfl (Nat.le_of_ble_eq_true rfl) rfl q1538 dX6_fallen_12 ?_
    refine z_ieq (e58) ?_
    refine z_icmp_ge F (tgt := 22) dX6_fallen_15 (by decide) (fun c_15 => ?_) (fun c_15 => ?_)
    · refine z_iconstB F false dX6_fallen_22 rfl ?_
      refine z_iconst F (nI 1) dX6_fallen_23 rfl ?_
      refine z_callV F (c_right (upd F0 0 (nI 0)) _ _ _ false 1 rfl (by omega) (by omega)) 2 rfl (lw_V q1736 q1738 qs43 q117 q1739) (by decide +kernel) ⟨Nat.le_of_ble_eq_true rfl, Nat.le_of_ble_eq_true rfl⟩ ⟨by omega, by omega⟩ [0, 1] 2 ⟨rfl, rfl, rfl, ⟨Or.inl rfl, Or.inr rfl, trivial⟩⟩ (fun h => nomatch h) (Nat.le_of_ble_eq_true rfl) ⟨⟨Or.inr trivial, Or.inl rfl, trivial⟩, rfl, rfl, rfl, Nat.le_of_ble_eq_true rfl⟩ rfl zC6 (zat_G0 rfl) rfl dX6_fallen_24 (fun r_24 w_24 hp => ?_) (fun _ _ h => h.elim)
      obtain ⟨rfl, rfl⟩ := hp
      refine z_weq (w' := [zH, zG _ _ _ _]) rfl ?_
      refine z_seq (S' := zi _ :: _) rfl ?_
      refine z_if_eqB F (tgt := 39) dX6_fallen_27 (by decide) (fun c_27 => ?_) (fun c_27 => ?_)
      · refine z_iconst F (nI 0) dX6_fallen_39 rfl ?_
        exact z_iret F E rfl dX6_fallen_40 (by omega) (by omega) (⟨rfl, by rw [upd_upd]; rfl⟩)
      · cases c_27
    · exact (fl_out c_7 c_15 hx).elim
end C9yn
