/-! floors: how long -/
section C9p
def dif (a b : Nat) : Nat := if b ≤ a then a - b else b - a
def apN (w p q : Nat) : Nat := dif (p % w) (q % w) + dif (p / w) (q / w)
theorem dif_sym (a b : Nat) : dif a b = dif b a := by unfold dif; split <;> split <;> omega
theorem apN_sym (w p q : Nat) : apN w p q = apN w q p := by unfold apN; rw [dif_sym (p % w), dif_sym (p / w)]
theorem dif_lt {a b c : Nat} (ha : a < c) (hb : b < c) : dif a b < c := by unfold dif; split <;> omega
theorem abs1 : ∀ a, a < 25 → ∀ b, b < 25 → (if 0 ≤ nI a - nI b then nI a - nI b else 0 - (nI a - nI b)) = nI (dif a b) := by decide +kernel
theorem abs2 : ∀ a, a < 25 → ∀ b, b < 25 → (nI a - nI b < 0 → -(nI a - nI b) = nI (dif a b)) ∧ (¬ nI a - nI b < 0 → nI a - nI b = nI (dif a b)) := by decide +kernel
theorem apN_lt {w p q : Nat} (hw : 1 ≤ w) (hp : p < 24) (hq : q < 24) : apN w p q < 50 := by
  have h1 := dif_lt (show p % w < 25 by have := Nat.mod_le p w; omega) (show q % w < 25 by have := Nat.mod_le q w; omega)
  have h2 := dif_lt (show p / w < 25 by have := Nat.div_le_self p w; omega) (show q / w < 25 by have := Nat.div_le_self q w; omega)
  unfold apN
  omega
def lnI (l : List (Nat × Nat)) (g : Nat → Nat → Nat) : Nat → Nat
  | 0 => 0
  | i + 1 => lnI l g i + g (la l i) (lb l i)
theorem lnI_app (l : List (Nat × Nat)) (q : Nat × Nat) (g : Nat → Nat → Nat) : ∀ i, i ≤ l.length → lnI (l ++ [q]) g i = lnI l g i
  | 0, _ => rfl
  | i + 1, h => by
    rw [lnI, lnI, lnI_app l q g i (by omega)]
    have e : (l ++ [q]).getD i (0, 0) = l.getD i (0, 0) := by simp [List.getD, List.getElem?_append_left (show i < l.length by omega)]
    unfold la lb
    rw [e]
theorem lnI_snoc (l : List (Nat × Nat)) (q : Nat × Nat) (g : Nat → Nat → Nat) : lnI (l ++ [q]) g (l.length + 1) = lnI l g l.length + g q.1 q.2 := by
  rw [lnI, lnI_app l q g l.length (Nat.le_refl _)]
  have e : (l ++ [q]).getD l.length (0, 0) = q := by simp [List.getD]
  unfold la lb
  rw [e]
def lnL (l : List (Nat × Nat)) (g : Nat → Nat → Nat) : Nat := lnI l g l.length
theorem lnL_cat (l : List (Nat × Nat)) (g : Nat → Nat → Nat) (f : Nat → Int32) (a : Nat) : ∀ b, lnL (l ++ pbs f a b) g = lnL l g + fb_sm (fun b => if a < b ∧ bt (f a) b = true then g a b else 0) b
  | 0 => by rw [pbs, List.append_nil]; rfl
  | b + 1 => by
    rw [pbs, fb_sm_succ, ← Nat.add_assoc, ← lnL_cat l g f a b]
    by_cases q : a < b ∧ bt (f a) b = true
    · rw [if_pos q, if_pos q, ← List.append_assoc]
      unfold lnL
      rw [List.length_append, List.length_singleton, lnI_snoc]
    · rw [if_neg q, if_neg q]; rfl
theorem lnL_pas (g : Nat → Nat → Nat) (n : Nat) (f : Nat → Int32) : ∀ a, lnL (pas n f a) g = fb_sm (fun a => fb_sm (fun b => if a < b ∧ bt (f a) b = true then g a b else 0) n) a
  | 0 => rfl
  | a + 1 => by rw [pas, lnL_cat, lnL_pas g n f a, fb_sm_succ]
theorem fb_sm_swap (h : Nat → Nat → Nat) (n : Nat) : ∀ m, fb_sm (fun a => fb_sm (fun b => h a b) n) m = fb_sm (fun b => fb_sm (fun a => h a b) m) n
  | 0 => by
    show 0 = fb_sm (fun _ => 0) n
    rw [fb_sm_zeroF]
  | m + 1 => by
    rw [fb_sm_succ, fb_sm_swap h n m, ← fb_sm_add]
    exact fb_sm_cong fun b _ => rfl
/-- the length of a row of places -/
def LN (n : Nat) (f : Nat → Int32) (w : Nat) (p : Nat → Nat) : Nat := lnL (prs n f) (fun a b => apN w (p a) (p b))
def moR (n : Nat) (f : Nat → Int32) (w : Nat) (p : Nat → Nat) (b : Nat) : Nat := fb_sm (fun a => if a < b ∧ bt (f b) a = true then apN w (p b) (p a) else 0) n
theorem LN_rows {n : Nat} {f : Nat → Int32} (h : nsy n f) (w : Nat) (p : Nat → Nat) : LN n f w p = fb_sm (moR n f w p) n := by
  unfold LN prs
  rw [lnL_pas, fb_sm_swap]
  refine fb_sm_cong fun b hb => fb_sm_cong fun a ha => ?_
  rw [h.2.1 a b ha hb, apN_sym]
theorem lnI_le {n : Nat} {f : Nat → Int32} {w : Nat} {p : Nat → Nat} (hw : 1 ≤ w) (hn : n ≤ 24) (hp : ∀ k, k < n → p k < n) : ∀ i, i ≤ (prs n f).length → lnI (prs n f) (fun a b => apN w (p a) (p b)) i ≤ i * 50
  | 0, _ => by rw [lnI]; omega
  | i + 1, hi => by
    have h1 := lnI_le hw hn hp i (by omega) (f := f)
    obtain ⟨g1, g2, _⟩ := prs_at (f := f) (show i < (prs n f).length by omega)
    have b1_ := hp (la (prs n f) i) (by omega)
    have b2_ := hp (lb (prs n f) i) g2
    have := apN_lt hw (show p (la (prs n f) i) < 24 by omega) (show p (lb (prs n f) i) < 24 by omega)
    rw [lnI]
    omega
abbrev eFo (w ls : Int32) : zE := zO 12 [zr 2 0, zi w, zr 4 0, zr 5 0, zr 6 0, zi ls]
theorem c_flApart (w p q : Nat) (ls : Int32) (hw : 1 ≤ w) (hw2 : w ≤ 24) (hp : p < 24) (hq : q < 24) : zCtr yX12_apart cX12_apart 3 (some .int) 1 0 0 [zr 1 0, zi (nI p), zi (nI q)] [zH, eFo (nI w) ls, zH, zH, zH, zH, zH] (fun r w' => r = some (zi (nI (apN w p q))) ∧ w' = [zH, eFo (nI w) ls, zH, zH, zH, zH, zH]) zNx := by
  refine z_start (by decide) [some (zr 1 0), some (zi (nI p)), some (zi (nI q))] rfl (fun _ => Nat.le_of_ble_eq_true rfl) (fun _ => rfl) (fun X F E hno hin => ?_)
  have m1 := Nat.mod_le p w
  have m2 := Nat.mod_le q w
  have m3 := Nat.div_le_self p w
  have m4 := Nat.div_le_self q w
  refine z_iload_n F dX12_apart_0 rfl ?_
  refine z_aload_n F dX12_apart_1 rfl ?_
  refine z_get F zC12 (f := 1) rfl (Nat.le_of_ble_eq_true rfl) q1235 rfl dX12_apart_2 ?_
  refine z_iremN F (by omega) (by omega) (by omega) dX12_apart_5 ?_
  refine z_iload_n F dX12_apart_6 rfl ?_
  refine z_aload_n F dX12_apart_7 rfl ?_
  refine z_get F zC12 (f := 1) rfl (Nat.le_of_ble_eq_true rfl) q1235 rfl dX12_apart_8 ?_
  refine z_iremN F (by omega) (by omega) (by omega) dX12_apart_11 ?_
  refine z_isub F dX12_apart_12 ?_
  refine z_mabs F q1267 dX12_apart_13 (Nat.le_of_ble_eq_true rfl) rfl (Nat.le_of_ble_eq_true rfl) ⟨by omega, by omega⟩ ?_
  refine z_ieq (abs1 _ (by omega) _ (by omega)) ?_
  refine z_iload_n F dX12_apart_16 rfl ?_
  refine z_aload_n F dX12_apart_17 rfl ?_
  refine z_get F zC12 (f := 1) rfl (Nat.le_of_ble_eq_true rfl) q1235 rfl dX12_apart_18 ?_
  refine z_idivN F (by omega) (by omega) (by omega) dX12_apart_21 ?_
  refine z_iload_n F dX12_apart_22 rfl ?_
  refine z_aload_n F dX12_apart_23 rfl ?_
  refine z_get F zC12 (f := 1) rfl (Nat.le_of_ble_eq_true rfl) q1235 rfl dX12_apart_24 ?_
  refine z_idivN F (by omega) (by omega) (by omega) dX12_apart_27 ?_
  refine z_isub F dX12_apart_28 ?_
  refine z_mabs F q1267 dX12_apart_29 (Nat.le_of_ble_eq_true rfl) rfl (Nat.le_of_ble_eq_true rfl) ⟨by omega, by omega⟩ ?_
  refine z_ieq (abs1 _ (by omega) _ (by omega)) ?_
  refine z_iaddN F dX12_apart_32 ?_
  exact z_iret F E rfl dX12_apart_33 (by omega) (by omega) (⟨rfl, rfl⟩)
theorem c_mapart0 (F0 : Nat → Int32) (G : Nat → Int64) (A : Nat → Nat → Int32) (B : Nat → Nat → Int64) (w p q : Nat) (hw : 1 ≤ w) (hw2 : w ≤ 24) (hp : p < 24) (hq : q < 24) (h61 : F0 61 = nI w) : zCtr yX6_apart0 cX6_apart0 5 (some .int) 0 0 0 [zr 1 0, zi (nI p), zi (nI q)] [zH, zG F0 G A B] (fun r w' => r = some (zi (nI (apN w p q))) ∧ w' = [zH, zG F0 G A B]) zNx := by
  refine z_start (by decide) [some (zr 1 0), some (zi (nI p)), some (zi (nI q)), none, none] rfl (fun _ => Nat.le_of_ble_eq_true rfl) (fun _ => rfl) (fun X F E hno hin => ?_)
  have m1 := Nat.mod_le p w
  have m2 := Nat.mod_le q w
  have m3 := Nat.div_le_self p w
  have m4 := Nat.div_le_self q w
  obtain ⟨a1, a2⟩ := abs2 (p % w) (by omega) (q % w) (by omega)
  obtain ⟨a3, a4⟩ := abs2 (p / w) (by omega) (q / w) (by omega)
  refine z_iload_n F dX6_apart0_0 rfl ?_
  refine z_aload_n F dX6_apart0_1 rfl ?_
  refine z_mi F rfl 61 rfl (Nat.le_of_ble_eq_true rfl) rfl q1541 dX6_apart0_2 ?_
  refine z_ieq (h61) ?_
  refine z_iremN F (by omega) (by omega) (by omega) dX6_apart0_5 ?_
  refine z_iload_n F dX6_apart0_6 rfl ?_
  refine z_aload_n F dX6_apart0_7 rfl ?_
  refine z_mi F rfl 61 rfl (Nat.le_of_ble_eq_true rfl) rfl q1541 dX6_apart0_8 ?_
  refine z_ieq (h61) ?_
  refine z_iremN F (by omega) (by omega) (by omega) dX6_apart0_11 ?_
  refine z_isub F dX6_apart0_12 ?_
  refine z_istore_n F dX6_apart0_13 (Nat.le_of_ble_eq_true rfl) ?_
  refine z_leq (L' := [_, _, _, _, _]) rfl ?_
  refine z_iload_n F dX6_apart0_14 rfl ?_
  refine z_aload_n F dX6_apart0_15 rfl ?_
  refine z_mi F rfl 61 rfl (Nat.le_of_ble_eq_true rfl) rfl q1541 dX6_apart0_16 ?_
  refine z_ieq (h61) ?_
  refine z_idivN F (by omega) (by omega) (by omega) dX6_apart0_19 ?_
  refine z_iload_n F dX6_apart0_20 rfl ?_
  refine z_aload_n F dX6_apart0_21 rfl ?_
  refine z_mi F rfl 61 rfl (Nat.le_of_ble_eq_true rfl) rfl q1541 dX6_apart0_22 ?_
  refine z_ieq (h61) ?_
  refine z_idivN F (by omega) (by omega) (by omega) dX6_apart0_25 ?_
  refine z_isub F dX6_apart0_26 ?_
  refine z_istore F dX6_apart0_27 (Nat.le_of_ble_eq_true rfl) ?_
  refine z_leq (L' := [_, _, _, _, _]) rfl ?_
  refine z_iload_n F dX6_apart0_29 rfl ?_
  refine z_if_ge F (tgt := 38) dX6_apart0_30 (by decide) (fun c_30 => ?_) (fun c_30 => ?_)
  · refine z_iload_n F dX6_apart0_38 rfl ?_
    refine z_iload F dX6_apart0_39 rfl ?_
    refine z_if_ge F (tgt := 50) dX6_apart0_41 (by decide) (fun c_41 => ?_) (fun c_41 => ?_)
    · refine z_iload F dX6_apart0_50 rfl ?_
      refine z_iadd F dX6_apart0_52 ?_
      exact z_iret F E rfl dX6_apart0_53 (by omega) (by omega) (⟨by
  unfold apN
  rw [← nI_add]
  first
  | rw [a1 c_30, a3 c_41]
  | rw [a1 c_30, a4 (Int32.not_lt.mpr c_41)]
  | rw [a2 (Int32.not_lt.mpr c_30), a3 c_41]
  | rw [a2 (Int32.not_lt.mpr c_30), a4 (Int32.not_lt.mpr c_41)]
  | rw [a1 (Int32.not_le.mp c_30), a3 (Int32.not_le.mp c_41)]
  | rw [a1 (Int32.not_le.mp c_30), a4 (Int32.not_lt.mpr c_41)]
  | rw [a2 (Int32.not_lt.mpr c_30), a3 (Int32.not_le.mp c_41)], rfl⟩)
    · refine z_iload F dX6_apart0_44 rfl ?_
      refine z_ineg F dX6_apart0_46 ?_
      refine z_goto F (tgt := 52) dX6_apart0_47 (by decide) ?_
      refine z_iadd F dX6_apart0_52 ?_
      exact z_iret F E rfl dX6_apart0_53 (by omega) (by omega) (⟨by
  unfold apN
  rw [← nI_add]
  first
  | rw [a1 c_30, a3 c_41]
  | rw [a1 c_30, a4 (Int32.not_lt.mpr c_41)]
  | rw [a2 (Int32.not_lt.mpr c_30), a3 c_41]
  | rw [a2 (Int32.not_lt.mpr c_30), a4 (Int32.not_lt.mpr c_41)]
  | rw [a1 (Int32.not_le.mp c_30), a3 (Int32.not_le.mp c_41)]
  | rw [a1 (Int32.not_le.mp c_30), a4 (Int32.not_lt.mpr c_41)]
  | rw [a2 (Int32.not_lt.mpr c_30), a3 (Int32.not_le.mp c_41)], rfl⟩)
  · refine z_iload_n F dX6_apart0_33 rfl ?_
    refine z_ineg F dX6_apart0_34 ?_
    refine z_goto F (tgt := 39) dX6_apart0_35 (by decide) ?_
    refine z_iload F dX6_apart0_39 rfl ?_
    refine z_if_ge F (tgt := 50) dX6_apart0_41 (by decide) (fun c_41 => ?_) (fun c_41 => ?_)
    · refine z_iload F dX6_apart0_50 rfl ?_
      refine z_iadd F dX6_apart0_52 ?_
      exact z_iret F E rfl dX6_apart0_53 (by omega) (by omega) (⟨by
  unfold apN
  rw [← nI_add]
  first
  | rw [a1 c_30, a3 c_41]
  | rw [a1 c_30, a4 (Int32.not_lt.mpr c_41)]
  | rw [a2 (Int32.not_lt.mpr c_30), a3 c_41]
  | rw [a2 (Int32.not_lt.mpr c_30), a4 (Int32.not_lt.mpr c_41)]
  | rw [a1 (Int32.not_le.mp c_30), a3 (Int32.not_le.mp c_41)]
  | rw [a1 (Int32.not_le.mp c_30), a4 (Int32.not_lt.mpr c_41)]
  | rw [a2 (Int32.not_lt.mpr c_30), a3 (Int32.not_le.mp c_41)], rfl⟩)
    · refine z_iload F dX6_apart0_44 rfl ?_
      refine z_ineg F dX6_apart0_46 ?_
      refine z_goto F (tgt := 52) dX6_apart0_47 (by decide) ?_
      refine z_iadd F dX6_apart0_52 ?_
      exact z_iret F E rfl dX6_apart0_53 (by omega) (by omega) (⟨by
  unfold apN
  rw [← nI_add]
  first
  | rw [a1 c_30, a3 c_41]
  | rw [a1 c_30, a4 (Int32.not_lt.mpr c_41)]
  | rw [a2 (Int32.not_lt.mpr c_30), a3 c_41]
  | rw [a2 (Int32.not_lt.mpr c_30), a4 (Int32.not_lt.mpr c_41)]
  | rw [a1 (Int32.not_le.mp c_30), a3 (Int32.not_le.mp c_41)]
  | rw [a1 (Int32.not_le.mp c_30), a4 (Int32.not_lt.mpr c_41)]
  | rw [a2 (Int32.not_lt.mpr c_30), a3 (Int32.not_le.mp c_41)], rfl⟩)
theorem c_flLen (n w : Nat) (d : Int32) (f : Nat → Int32) (p : Nat → Nat) (ls : Int32) (R Pl : Nat → Int32) (hn : n ≤ 24) (hw : 1 ≤ w) (hw2 : w ≤ 24) (hpb : ∀ k, k < n → p k < n) (hPl : ∀ k, k < n → Pl k = nI (p k)) (h100 : (prs n f).length ≤ 100) (hR : R = rowA (prs n f) (fun _ => 0)) : zCtr yX12_length cX12_length 3 (some .int) 2 0 0 [zr 1 0] [zH, eFo (nI w) ls, zH, zH, zAi 0 (prs n f).length R, zAi 0 n Pl, zH] (fun r w' => r = some (zi (nI (LN n f w p))) ∧ w' = [zH, eFo (nI w) ls, zH, zH, zAi 0 (prs n f).length R, zAi 0 n Pl, zH]) zNx := by
  refine z_start (by decide) [some (zr 1 0), none, none] rfl (fun _ => Nat.le_of_ble_eq_true rfl) (fun _ => rfl) (fun X F E hno hin => ?_)
  have loop : ∀ (m i : Nat), (prs n f).length - i < m → i ≤ (prs n f).length → Z X [some (zr 1 0), some (zi (nI (lnI (prs n f) (fun a b => apN w (p a) (p b)) i))), some (zi (nI i))] [] [zH, eFo (nI w) ls, zH, zH, zAi 0 (prs n f).length R, zAi 0 n Pl, zH] 0 0 4 := by
    intro m
    induction m with
    | zero => intro i hm; omega
    | succ m ih =>
      intro i hm hi
      have g0 := fun z => prs_at (n := n) (f := f) (i := i) z
      have gR : i < (prs n f).length → R i = nI (32 * la (prs n f) i + lb (prs n f) i) := fun z => by rw [hR]; exact rw1 z
      have i1 := fun z => ih (i + 1) (by omega) z
      rw [lnI] at i1
      refine z_iload_n F dX12_length_4 rfl ?_
      refine z_aload_n F dX12_length_5 rfl ?_
      refine z_get F zC12 (f := 2) rfl (Nat.le_of_ble_eq_true rfl) q1236 rfl dX12_length_6 ?_
      refine z_alenN F (fun _ => rfl) rfl dX12_length_9 ?_
      refine z_icmp_geN F (by omega) (by omega) (tgt := 53) dX12_length_10 (by decide) (fun c_10 => ?_) (fun c_10 => ?_)
      · refine z_iload_n F dX12_length_53 rfl ?_
        exact z_iret F E rfl dX12_length_54 (by omega) (by omega) (⟨by rw [show i = (prs n f).length by omega]; rfl, rfl⟩)
      · have gR := gR (by omega)
        obtain ⟨g1, g2, _⟩ := g0 (by omega)
        have i1 := i1 (by omega)
        have t1 := hPl (la (prs n f) i) (by omega)
        have t2 := hPl (lb (prs n f) i) g2
        have b1_ := hpb (la (prs n f) i) (by omega)
        have b2_ := hpb (lb (prs n f) i) g2
        refine z_iload_n F dX12_length_13 rfl ?_
        refine z_aload_n F dX12_length_14 rfl ?_
        refine z_aload_n F dX12_length_15 rfl ?_
        refine z_get F zC12 (f := 3) rfl (Nat.le_of_ble_eq_true rfl) q1237 rfl dX12_length_16 ?_
        refine z_aload_n F dX12_length_19 rfl ?_
        refine z_get F zC12 (f := 2) rfl (Nat.le_of_ble_eq_true rfl) q1236 rfl dX12_length_20 ?_
        refine z_iload_n F dX12_length_23 rfl ?_
        refine z_ialdN F rfl (by omega) (by omega) rfl dX12_length_24 ?_
        refine z_ieq (gR) ?_
        refine z_iconst F (nI 5) dX12_length_25 rfl ?_
        refine z_ishr F dX12_length_26 ?_
        refine z_ieq (pc_hi (by omega) (by omega)) ?_
        refine z_ialdN F rfl (by omega) (by omega) rfl dX12_length_27 ?_
        refine z_ieq (t1) ?_
        refine z_aload_n F dX12_length_28 rfl ?_
        refine z_get F zC12 (f := 3) rfl (Nat.le_of_ble_eq_true rfl) q1237 rfl dX12_length_29 ?_
        refine z_aload_n F dX12_length_32 rfl ?_
        refine z_get F zC12 (f := 2) rfl (Nat.le_of_ble_eq_true rfl) q1236 rfl dX12_length_33 ?_
        refine z_iload_n F dX12_length_36 rfl ?_
        refine z_ialdN F rfl (by omega) (by omega) rfl dX12_length_37 ?_
        refine z_ieq (gR) ?_
        refine z_bipush F (nI 31) dX12_length_38 rfl ?_
        refine z_iand F dX12_length_40 ?_
        refine z_ieq (pc_lo (by omega) (by omega)) ?_
        refine z_ialdN F rfl (by omega) (by omega) rfl dX12_length_41 ?_
        refine z_ieq (t2) ?_
        refine z_callV F (c_flApart w (p (la (prs n f) i)) (p (lb (prs n f) i)) ls hw hw2 (by omega) (by omega)) 2 rfl (lw_V q1263 q1265 qs28 q140 q1266) (by decide +kernel) ⟨Nat.le_of_ble_eq_true rfl, Nat.le_of_ble_eq_true rfl⟩ ⟨by omega, by omega⟩ [0, 1, 2, 3, 4, 5, 6] 7 ⟨rfl, rfl, rfl, ⟨Or.inl rfl, Or.inr rfl, Or.inl rfl, Or.inl rfl, Or.inl rfl, Or.inl rfl, Or.inl rfl, trivial⟩⟩ (fun h => nomatch h) (Nat.le_of_ble_eq_true rfl) ⟨⟨Or.inr trivial, Or.inl rfl, Or.inr trivial, Or.inr trivial, Or.inr trivial, Or.inr trivial, Or.inr trivial, trivial⟩, rfl, rfl, rfl, Nat.le_of_ble_eq_true rfl⟩ rfl zC12 rfl rfl dX12_length_42 (fun r_42 w_42 hp => ?_) (fun _ _ h => h.elim)
        obtain ⟨rfl, rfl⟩ := hp
        refine z_weq (w' := [zH, zO _ [zr _ _, zi _, zr _ _, zr _ _, zr _ _, zi _], zH, zH, zAi 0 (prs n f).length _, zAi 0 n _, zH]) rfl ?_
        refine z_seq (S' := zi _ :: _) rfl ?_
        refine z_iaddN F dX12_length_45 ?_
        refine z_istore_n F dX12_length_46 (Nat.le_of_ble_eq_true rfl) ?_
        refine z_leq (L' := [_, _, _]) rfl ?_
        refine z_iincN F 1 dX12_length_47 rfl rfl ?_
        refine z_leq (L' := [_, _, _]) rfl ?_
        refine z_goto F (tgt := 4) dX12_length_50 (by decide) ?_
        exact i1
  refine z_iconst F (nI 0) dX12_length_0 rfl ?_
  refine z_istore_n F dX12_length_1 (Nat.le_of_ble_eq_true rfl) ?_
  refine z_leq (L' := [_, _, _]) rfl ?_
  refine z_iconst F (nI 0) dX12_length_2 rfl ?_
  refine z_istore_n F dX12_length_3 (Nat.le_of_ble_eq_true rfl) ?_
  refine z_leq (L' := [_, _, _]) rfl ?_
  exact loop _ 0 (Nat.lt_succ_self _) (Nat.zero_le _)
theorem c_mlen (F0 : Nat → Int32) (G : Nat → Int64) (A : Nat → Nat → Int32) (B : Nat → Nat → Int64) (n w : Nat) (f : Nat → Int32) (p : Nat → Nat) (hn : n ≤ 24) (hw : 1 ≤ w) (hw2 : w ≤ 24) (hpb : ∀ k, k < n → p k < n) (hPl : ∀ k, k < n → A 63 k = nI (p k)) (h96 : (prs n f).length ≤ 96) (h20 : F0 20 = nI (prs n f).length) (hL : LnE A (prs n f)) (h61 : F0 61 = nI w) : zCtr yX6_length cX6_length 3 (some .int) 1 0 0 [zr 1 0] [zH, zG F0 G A B] (fun r w' => r = some (zi (nI (LN n f w p))) ∧ w' = [zH, zG F0 G A B]) zNx := by
  refine z_start (by decide) [some (zr 1 0), none, none] rfl (fun _ => Nat.le_of_ble_eq_true rfl) (fun _ => rfl) (fun X F E hno hin => ?_)
  have loop : ∀ (m i : Nat), (prs n f).length - i < m → i ≤ (prs n f).length → Z X [some (zr 1 0), some (zi (nI (lnI (prs n f) (fun a b => apN w (p a) (p b)) i))), some (zi (nI i))] [] [zH, zG F0 G A B] 0 0 4 := by
    intro m
    induction m with
    | zero => intro i hm; omega
    | succ m ih =>
      intro i hm hi
      have g0 := fun z => prs_at (n := n) (f := f) (i := i) z
      have gR : i < (prs n f).length → A 21 i = nI (la (prs n f) i) ∧ A 22 i = nI (lb (prs n f) i) := fun z => hL i z
      have i1 := fun z => ih (i + 1) (by omega) z
      rw [lnI] at i1
      refine z_iload_n F dX6_length_4 rfl ?_
      refine z_aload_n F dX6_length_5 rfl ?_
      refine z_mi F rfl 20 rfl (Nat.le_of_ble_eq_true rfl) rfl q1500 dX6_length_6 ?_
      refine z_ieq (h20) ?_
      refine z_icmp_geN F (by omega) (by omega) (tgt := 47) dX6_length_9 (by decide) (fun c_9 => ?_) (fun c_9 => ?_)
      · refine z_iload_n F dX6_length_47 rfl ?_
        exact z_iret F E rfl dX6_length_48 (by omega) (by omega) (⟨by rw [show i = (prs n f).length by omega]; rfl, rfl⟩)
      · obtain ⟨gR1, gR2⟩ := gR (by omega)
        obtain ⟨g1, g2, _⟩ := g0 (by omega)
        have i1 := i1 (by omega)
        have t1 := hPl (la (prs n f) i) (by omega)
        have t2 := hPl (lb (prs n f) i) g2
        have b1_ := hpb (la (prs n f) i) (by omega)
        have b2_ := hpb (lb (prs n f) i) g2
        refine z_iload_n F dX6_length_12 rfl ?_
        refine z_aload_n F dX6_length_13 rfl ?_
        refine z_aload_n F dX6_length_14 rfl ?_
        refine z_ma F rfl 63 rfl (Nat.le_of_ble_eq_true rfl) rfl q1543 dX6_length_15 ?_
        refine z_aload_n F dX6_length_18 rfl ?_
        refine z_ma F rfl 21 rfl (Nat.le_of_ble_eq_true rfl) rfl q1501 dX6_length_19 ?_
        refine z_iload_n F dX6_length_22 rfl ?_
        refine z_ialdGN F rfl rfl (Nat.le_of_ble_eq_true rfl) (by omega) rfl dX6_length_23 ?_
        refine z_ieq (gR1) ?_
        refine z_ialdGN F rfl rfl (Nat.le_of_ble_eq_true rfl) (by omega) rfl dX6_length_24 ?_
        refine z_ieq (t1) ?_
        refine z_aload_n F dX6_length_25 rfl ?_
        refine z_ma F rfl 63 rfl (Nat.le_of_ble_eq_true rfl) rfl q1543 dX6_length_26 ?_
        refine z_aload_n F dX6_length_29 rfl ?_
        refine z_ma F rfl 22 rfl (Nat.le_of_ble_eq_true rfl) rfl q1502 dX6_length_30 ?_
        refine z_iload_n F dX6_length_33 rfl ?_
        refine z_ialdGN F rfl rfl (Nat.le_of_ble_eq_true rfl) (by omega) rfl dX6_length_34 ?_
        refine z_ieq (gR2) ?_
        refine z_ialdGN F rfl rfl (Nat.le_of_ble_eq_true rfl) (by omega) rfl dX6_length_35 ?_
        refine z_ieq (t2) ?_
        refine z_callV F (c_mapart0 F0 _ _ _ w (p (la (prs n f) i)) (p (lb (prs n f) i)) hw hw2 (by omega) (by omega) h61) 2 rfl (lw_V q2055 q2057 qs90 q117 q2058) (by decide +kernel) ⟨Nat.le_of_ble_eq_true rfl, Nat.le_of_ble_eq_true rfl⟩ ⟨by omega, by omega⟩ [0, 1] 2 ⟨rfl, rfl, rfl, ⟨Or.inl rfl, Or.inr rfl, trivial⟩⟩ (fun h => nomatch h) (Nat.le_of_ble_eq_true rfl) ⟨⟨Or.inr trivial, Or.inl rfl, trivial⟩, rfl, rfl, rfl, Nat.le_of_ble_eq_true rfl⟩ rfl zC6 (zat_G0 rfl) rfl dX6_length_36 (fun r_36 w_36 hp => ?_) (fun _ _ h => h.elim)
        obtain ⟨rfl, rfl⟩ := hp
        refine z_weq (w' := [zH, zG _ _ _ _]) rfl ?_
        refine z_seq (S' := zi _ :: _) rfl ?_
        refine z_iaddN F dX6_length_39 ?_
        refine z_istore_n F dX6_length_40 (Nat.le_of_ble_eq_true rfl) ?_
        refine z_leq (L' := [_, _, _]) rfl ?_
        refine z_iincN F 1 dX6_length_41 rfl rfl ?_
        refine z_leq (L' := [_, _, _]) rfl ?_
        refine z_goto F (tgt := 4) dX6_length_44 (by decide) ?_
        exact i1
  refine z_iconst F (nI 0) dX6_length_0 rfl ?_
  refine z_istore_n F dX6_length_1 (Nat.le_of_ble_eq_true rfl) ?_
  refine z_leq (L' := [_, _, _]) rfl ?_
  refine z_iconst F (nI 0) dX6_length_2 rfl ?_
  refine z_istore_n F dX6_length_3 (Nat.le_of_ble_eq_true rfl) ?_
  refine z_leq (L' := [_, _, _]) rfl ?_
  exact loop _ 0 (Nat.lt_succ_self _) (Nat.zero_le _)
end C9p
