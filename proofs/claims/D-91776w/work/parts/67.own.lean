/-! Own: the net's table times a table of longs -/
section C67
def awr (f : Nat → Int32) (T : Nat → Nat → Int64) (i j : Nat) : Nat → Int64
  | 0 => 0
  | x + 1 => if bt (f i) x then awr f T i j x + T x j else awr f T i j x
theorem awr_y {f : Nat → Int32} {T : Nat → Nat → Int64} {i j x : Nat} (h : bt (f i) x = true) : awr f T i j (x + 1) = awr f T i j x + T x j := by rw [awr, if_pos h]
theorem awr_n {f : Nat → Int32} {T : Nat → Nat → Int64} {i j x : Nat} (h : bt (f i) x = false) : awr f T i j (x + 1) = awr f T i j x := by rw [awr, if_neg (by rw [h]; simp)]
theorem awr_skip {f : Nat → Int32} {T : Nat → Nat → Int64} {i j x : Nat} : ∀ y, x ≤ y → (∀ k, x ≤ k → k < y → bt (f i) k = false) → awr f T i j y = awr f T i j x
  | 0, h, _ => by rw [show x = 0 by omega]
  | y + 1, h, hz => by
    by_cases q : x = y + 1
    · rw [q]
    · rw [awr_n (hz y (by omega) (by omega)), awr_skip y (by omega) (fun k a b => hz k a (by omega))]
theorem awr_cong {f : Nat → Int32} {T T' : Nat → Nat → Int64} {i j : Nat} : ∀ x, (∀ k, k < x → T k j = T' k j) → awr f T i j x = awr f T' i j x
  | 0, _ => rfl
  | x + 1, h => by rw [awr, awr, awr_cong x (fun k hk => h k (by omega)), h x (by omega)]
def bh (n : Nat) (f : Nat → Int32) (T : Nat → Nat → Int64) (i x c : Nat) (C : Nat → Nat → Int64) : Prop := ∀ a b, a < n → b < n → C a b = if a < i then awr f T a b n else if a = i then (if b < c then awr f T a b (x + 1) else awr f T a b x) else 0
theorem bh_0 {n : Nat} {f : Nat → Int32} {T : Nat → Nat → Int64} : bh n f T 0 0 0 (fun _ _ => 0) := fun a b _ _ => by
  rw [if_neg (by omega)]
  split
  · rw [if_neg (by omega)]; rfl
  · rfl
theorem bh_skip {n : Nat} {f : Nat → Int32} {T C : Nat → Nat → Int64} {i x y : Nat} (h : bh n f T i x 0 C) (hxy : x ≤ y) (hz : ∀ k, x ≤ k → k < y → bt (f i) k = false) : bh n f T i y 0 C := fun a b ha hb => by
  rw [h a b ha hb]
  by_cases q : a < i
  · rw [if_pos q, if_pos q]
  · rw [if_neg q, if_neg q]
    by_cases q2 : a = i
    · subst q2
      rw [if_pos rfl, if_pos rfl, if_neg (by omega), if_neg (by omega), awr_skip y hxy hz]
    · rw [if_neg q2, if_neg q2]
theorem bh_row {n : Nat} {f : Nat → Int32} {T C : Nat → Nat → Int64} {i : Nat} (h : bh n f T i n 0 C) : bh n f T (i + 1) 0 0 C := fun a b ha hb => by
  rw [h a b ha hb]
  by_cases q : a < i
  · rw [if_pos q, if_pos (by omega)]
  · rw [if_neg q]
    by_cases q2 : a = i
    · rw [if_pos q2, if_neg (show ¬ b < 0 by omega), if_pos (show a < i + 1 by omega)]
    · rw [if_neg q2, if_neg (by omega)]
      split
      · rw [if_neg (by omega)]; rfl
      · rfl
theorem bh_step {n : Nat} {f : Nat → Int32} {T C : Nat → Nat → Int64} {i x c : Nat} (h : bh n f T i x c C) (hi : i < n) (hc : c < n) (hb : bt (f i) x = true) : bh n f T i x (c + 1) (zup2 C i c (C i c + T x c)) := fun a b ha hb2 => by
  unfold zup2
  by_cases q : a = i
  · subst q
    rw [if_pos rfl, if_neg (show ¬ a < a by omega), if_pos rfl]
    by_cases q2 : b = c
    · subst q2
      rw [if_pos rfl, if_pos (show b < b + 1 by omega), awr_y hb, h a b ha hb2, if_neg (show ¬ a < a by omega), if_pos rfl, if_neg (show ¬ b < b by omega)]
    · rw [if_neg q2, h a b ha hb2, if_neg (show ¬ a < a by omega), if_pos rfl]
      by_cases q3 : b < c
      · rw [if_pos q3, if_pos (by omega)]
      · rw [if_neg q3, if_neg (by omega)]
  · rw [if_neg q, h a b ha hb2, if_neg q, if_neg q]
theorem bh_end {n : Nat} {f : Nat → Int32} {T C : Nat → Nat → Int64} {i x : Nat} (h : bh n f T i x n C) : bh n f T i (x + 1) 0 C := fun a b ha hb => by
  rw [h a b ha hb]
  by_cases q : a < i
  · rw [if_pos q, if_pos q]
  · rw [if_neg q, if_neg q]
    by_cases q2 : a = i
    · rw [if_pos q2, if_pos q2, if_pos hb, if_neg (by omega)]
    · rw [if_neg q2, if_neg q2]
theorem c_behind (n : Nat) (d : Int32) (f : Nat → Int32) (T : Nat → Nat → Int64) (hn : n ≤ 24) (hout : ∀ a, a < n → ∀ b, n ≤ b → bt (f a) b = false) :
    zCtr yX10_behind cX10_behind 6 (some (.array (.array .long))) 1 25 600 [zr 1 0, zr 3 0] [zH, eNet 2 (nI n) d, zAi 0 24 f, zMl 5 1 n n T] (fun r w => r = some (zr 4 0) ∧ ∃ T', w = [zH, eNet 2 (nI n) d, zAi 0 24 f, zMl 5 1 n n T, zMl 5 1 n n T'] ∧ ∀ a b, a < n → b < n → T' a b = awr f T a b n) zNx := by
  refine z_start (by decide) [some (zr 1 0), some (zr 3 0), none, none, none, none] rfl (fun _ => Nat.le_of_ble_eq_true rfl) (fun _ => rfl) (fun X F E hno hin => ?_)
  have hnn : n * n ≤ 576 := Nat.mul_le_mul hn hn
  have col : ∀ (i x : Nat) (y : Int32), i < n → x < n → bt (f i) x = true → bt y x = true → (∀ k, k < x → bt y k = false) → (∀ C, bh n f T i (x + 1) 0 C → Z X [some (zr 1 0), some (zr 3 0), some (zr 4 0), some (zi (nI i)), some (zi y), none] [] [zH, eNet 2 (nI n) d, zAi 0 24 f, zMl 5 1 n n T, zMl 5 1 n n C] 25 600 73) →
      ∀ (m c : Nat) (C : Nat → Nat → Int64), n - c < m → c ≤ n → bh n f T i x c C → Z X [some (zr 1 0), some (zr 3 0), some (zr 4 0), some (zi (nI i)), some (zi y), some (zi (nI c))] [] [zH, eNet 2 (nI n) d, zAi 0 24 f, zMl 5 1 n n T, zMl 5 1 n n C] 25 600 39 := by
    intro i x y hi hx hb hy1 hy0 kk m
    induction m with
    | zero => intro c C hm; omega
    | succ m ih =>
      intro c C hm hc hC
      refine z_iload F dX10_behind_39 rfl ?_
      refine z_aload_n F dX10_behind_41 rfl ?_
      refine z_getN F zC5 (f := 0) rfl (Nat.le_of_ble_eq_true rfl) q240 rfl dX10_behind_42 ?_
      refine z_icmp_geN F (by omega) (by omega) (tgt := 73) dX10_behind_45 (by decide) (fun c_45 => ?_) (fun c_45 => ?_)
      · rw [show c = n by omega] at hC
        refine z_loc _ ?_ (kk C (bh_end hC))
        exact ⟨rfl, rfl, rfl, rfl, rfl, trivial⟩
      · refine z_aload_n F dX10_behind_48 rfl ?_
        refine z_iload_n F dX10_behind_49 rfl ?_
        refine z_aaldMN F rfl (Or.inr (Or.inl rfl)) (by omega) (by omega) dX10_behind_50 ?_
        refine z_iload F dX10_behind_51 rfl ?_
        refine z_dup2 F dX10_behind_53 rfl rfl ?_
        refine z_laldMN F rfl (by omega) (by omega) (by omega) rfl dX10_behind_54 ?_
        refine z_aload_n F dX10_behind_55 rfl ?_
        refine z_iload F dX10_behind_56 rfl ?_
        refine z_callS F (c_ntz y x (by omega) hy1 hy0) 1 rfl (lw_S q892 q808 q123 q809) (by decide +kernel) ⟨Nat.le_of_ble_eq_true rfl, Nat.le_of_ble_eq_true rfl⟩ ⟨by omega, by omega⟩ [0] 5 ⟨rfl, rfl, rfl, ⟨Or.inl rfl, trivial⟩⟩ (fun h => nomatch h) (Nat.le_of_ble_eq_true rfl) ⟨⟨Or.inr trivial, Or.inr rfl, Or.inr trivial, Or.inr trivial, Or.inr trivial, trivial⟩, rfl, rfl, rfl, Nat.le_of_ble_eq_true rfl⟩ rfl rfl dX10_behind_58 (fun r_58 w_58 hp => ?_) (fun _ _ h => h.elim)
        obtain ⟨rfl, rfl⟩ := hp
        refine z_weq (w' := [zH, zO _ [zi _, zi _, zr _ _], zAi 0 24 _, zMl 5 1 n n _, zMl 5 1 n n _]) rfl ?_
        refine z_seq (S' := zi _ :: _) rfl ?_
        refine z_aaldMN F rfl (Or.inr (Or.inl rfl)) (by omega) (by omega) dX10_behind_61 ?_
        refine z_iload F dX10_behind_62 rfl ?_
        refine z_laldMN F rfl (by omega) (by omega) (by omega) rfl dX10_behind_64 ?_
        refine z_ladd F dX10_behind_65 ?_
        refine z_lastMN F rfl (by omega) (by omega) (by omega) dX10_behind_66 ?_
        refine z_weq (w' := [_, _, _, _, _]) rfl ?_
        refine z_iincN F 1 dX10_behind_67 rfl rfl ?_
        refine z_leq (L' := [_, _, _, _, _, _]) rfl ?_
        refine z_goto F (tgt := 39) dX10_behind_70 (by decide) ?_
        exact ih (c + 1) _ (by omega) (by omega) (bh_step hC hi (by omega) hb)
  have row : ∀ (i : Nat), i < n → (∀ C, bh n f T (i + 1) 0 0 C → Z X [some (zr 1 0), some (zr 3 0), some (zr 4 0), some (zi (nI (i + 1))), none, none] [] [zH, eNet 2 (nI n) d, zAi 0 24 f, zMl 5 1 n n T, zMl 5 1 n n C] 25 600 15) →
      ∀ (m : Nat) (y : Int32) (x : Nat) (C : Nat → Nat → Int64), pc32 y < m → x ≤ n → upto (f i) x y → bh n f T i x 0 C → Z X [some (zr 1 0), some (zr 3 0), some (zr 4 0), some (zi (nI i)), some (zi y), none] [] [zH, eNet 2 (nI n) d, zAi 0 24 f, zMl 5 1 n n T, zMl 5 1 n n C] 25 600 31 := by
    intro i hi kk m
    induction m with
    | zero => intro y x C hm; omega
    | succ m ih =>
      intro y x C hm hx hu hC
      have back : ∀ (b : Nat) (C1 : Nat → Nat → Int64), b < n → upto (f i) (b + 1) (y &&& (y - nI 1)) → pc32 (y &&& (y - nI 1)) < m → bh n f T i (b + 1) 0 C1 → Z X [some (zr 1 0), some (zr 3 0), some (zr 4 0), some (zi (nI i)), some (zi y), none] [] [zH, eNet 2 (nI n) d, zAi 0 24 f, zMl 5 1 n n T, zMl 5 1 n n C1] 25 600 73 := by
        intro b C1 hb hu2 hpc hC1
        refine z_iload F dX10_behind_73 rfl ?_
        refine z_iload F dX10_behind_75 rfl ?_
        refine z_iconst F (nI 1) dX10_behind_77 rfl ?_
        refine z_isub F dX10_behind_78 ?_
        refine z_iand F dX10_behind_79 ?_
        refine z_istore F dX10_behind_80 (Nat.le_of_ble_eq_true rfl) ?_
        refine z_leq (L' := [_, _, _, _, _, _]) rfl ?_
        refine z_goto F (tgt := 31) dX10_behind_82 (by decide) ?_
        exact ih _ (b + 1) C1 hpc (by omega) hu2 hC1
      refine z_iload F dX10_behind_31 rfl ?_
      refine z_if_eq F (tgt := 85) dX10_behind_33 (by decide) (fun c_33 => ?_) (fun c_33 => ?_)
      · subst c_33
        have e1 := bh_skip (y := n) hC hx (fun k a b => upto_end hu k a (by omega))
        refine z_iincN F 1 dX10_behind_85 rfl rfl ?_
        refine z_leq (L' := [_, _, _, _, _, _]) rfl ?_
        refine z_goto F (tgt := 15) dX10_behind_88 (by decide) ?_
        refine z_loc _ ?_ (kk C (bh_row e1))
        exact ⟨rfl, rfl, rfl, rfl, trivial⟩
      · obtain ⟨b, hb, hxb, hS, hSk, hy1, hy0, hu2, hpc⟩ := upto_low hu c_33
        have hbn : b < n := Nat.lt_of_not_le fun q => by
          have := hout i hi b q
          rw [this] at hS; cases hS
        refine z_iconst F (nI 0) dX10_behind_36 rfl ?_
        refine z_istore F dX10_behind_37 (Nat.le_of_ble_eq_true rfl) ?_
        refine z_leq (L' := [_, _, _, _, _, _]) rfl ?_
        exact col i b y hi hbn hS hy1 hy0 (fun C1 hC1 => back b C1 hbn hu2 (by omega) hC1) (n + 1) 0 C (by omega) (by omega) (bh_skip hC hxb hSk)
  have outer : ∀ (m i : Nat) (C : Nat → Nat → Int64), n - i < m → i ≤ n → bh n f T i 0 0 C → Z X [some (zr 1 0), some (zr 3 0), some (zr 4 0), some (zi (nI i)), none, none] [] [zH, eNet 2 (nI n) d, zAi 0 24 f, zMl 5 1 n n T, zMl 5 1 n n C] 25 600 15 := by
    intro m
    induction m with
    | zero => intro i C hm; omega
    | succ m ih =>
      intro i C hm hi hC
      refine z_iload_n F dX10_behind_15 rfl ?_
      refine z_aload_n F dX10_behind_16 rfl ?_
      refine z_getN F zC5 (f := 0) rfl (Nat.le_of_ble_eq_true rfl) q240 rfl dX10_behind_17 ?_
      refine z_icmp_geN F (by omega) (by omega) (tgt := 91) dX10_behind_20 (by decide) (fun c_20 => ?_) (fun c_20 => ?_)
      · refine z_aload_n F dX10_behind_91 rfl ?_
        exact z_aret F E rfl (Or.inr ⟨_, rfl⟩) dX10_behind_92 (by omega) (by omega) (⟨rfl, C, rfl, fun a b ha hb => by rw [hC a b ha hb, if_pos (by omega)]⟩)
      · refine z_aload_n F dX10_behind_23 rfl ?_
        refine z_getN F zC5 (f := 2) rfl (Nat.le_of_ble_eq_true rfl) q253 rfl dX10_behind_24 ?_
        refine z_iload_n F dX10_behind_27 rfl ?_
        refine z_ialdN F rfl (Nat.le_of_ble_eq_true rfl) (by omega) rfl dX10_behind_28 ?_
        refine z_istore F dX10_behind_29 (Nat.le_of_ble_eq_true rfl) ?_
        refine z_leq (L' := [_, _, _, _, _, _]) rfl ?_
        exact row i (by omega) (fun C1 hC1 => ih (i + 1) C1 (by omega) (by omega) hC1) (pc32 (f i) + 1) (f i) 0 C (by omega) (by omega) (upto_0 _) hC
  refine z_aload_n F dX10_behind_0 rfl ?_
  refine z_getN F zC5 (f := 0) rfl (Nat.le_of_ble_eq_true rfl) q240 rfl dX10_behind_1 ?_
  refine z_aload_n F dX10_behind_4 rfl ?_
  refine z_getN F zC5 (f := 0) rfl (Nat.le_of_ble_eq_true rfl) q240 rfl dX10_behind_5 ?_
  refine z_multiJ F n n 4 q887 q888 q893 (nI_pos (by omega)) (zcl_n (by omega)) (nI_pos (by omega)) (zcl_n (by omega)) (⟨by omega, by omega⟩) rfl (Nat.le_of_ble_eq_true rfl) ⟨trivial, rfl, trivial, trivial, trivial⟩ rfl rfl ⟨by omega, by omega⟩ dX10_behind_8 ?_
  refine z_weq (w' := [_, _, _, _, _]) rfl ?_
  refine z_widen (k' := 25) (n' := 600) (by omega) (by omega) ?_
  refine z_astore_n F dX10_behind_12 (Nat.le_of_ble_eq_true rfl) ?_
  refine z_leq (L' := [_, _, _, _, _, _]) rfl ?_
  refine z_iconst F (nI 0) dX10_behind_13 rfl ?_
  refine z_istore_n F dX10_behind_14 (Nat.le_of_ble_eq_true rfl) ?_
  refine z_leq (L' := [_, _, _, _, _, _]) rfl ?_
  exact outer (n + 1) 0 _ (by omega) (by omega) bh_0
end C67
