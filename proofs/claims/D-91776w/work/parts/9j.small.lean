/-! small nets: pairs, images -/
section C9j
def pcn (n : Nat) : Nat → Nat
  | 0 => 0
  | a + 1 => pcn n a + (n - 1 - a)
def pidx (n a b : Nat) : Nat := pcn n a + (b - a - 1)
def prL (n : Nat) : List (Nat × Nat) := (List.range n).flatMap fun a => (List.range (n - 1 - a)).map fun i => (a, a + 1 + i)
def pf (n p : Nat) : Nat := ((prL n)[p]?.getD (0, 0)).1
def ps (n p : Nat) : Nat := ((prL n)[p]?.getD (0, 0)).2
theorem p_1a : ∀ n, n < 7 → ∀ b, b < n → ∀ a, a < b → pidx n a b < pcn n n ∧ pf n (pidx n a b) = a ∧ ps n (pidx n a b) = b := by decide +kernel
theorem p_1 (n : Nat) (hn : n < 7) (a : Nat) (_ : a < 7) (b : Nat) (_ : b < 7) (hab : a < b) (hb : b < n) : pidx n a b < pcn n n ∧ pf n (pidx n a b) = a ∧ ps n (pidx n a b) = b := p_1a n hn b hb a hab
theorem p_2 : ∀ n, n < 7 → ∀ p, p < 16 → p < pcn n n → pf n p < ps n p ∧ ps n p < n ∧ pidx n (pf n p) (ps n p) = p := by decide +kernel
theorem p_3 : ∀ n, n < 7 → pcn n n ≤ 15 ∧ n * (n - 1) / 2 = pcn n n := by decide +kernel
theorem b1_pw : ∀ k, k < 16 → b1 k = nI (2 ^ k) := by decide +kernel
theorem nI_bits2 {c : Int32} {n : Nat} (hn : n ≤ 31) (h : ∀ i, bt c i = true → i < n) : ∃ j, j < 2 ^ n ∧ c = nI j := by
  obtain ⟨j, hj, rfl⟩ := nI_bits hn h
  refine ⟨j, ?_, rfl⟩
  refine Nat.lt_pow_two_of_testBit _ fun i hi => ?_
  by_cases h32 : i < 32
  · cases e : j.testBit i with
    | false => rfl
    | true =>
      have : bt (nI j) i = true := by
        unfold bt
        show (BitVec.ofNat 32 j).getLsbD i = true
        rw [BitVec.getLsbD_ofNat, e, decide_eq_true h32]; rfl
      have := h i this
      omega
  · exact Nat.testBit_lt_two_pow (Nat.lt_of_lt_of_le hj (Nat.pow_le_pow_right (by decide) (by omega)))
def skr (n : Nat) (c : Int32) : Nat → Nat → Int32
  | 0 => fun _ => nI 0
  | p + 1 => if bt c p = true then jn (skr n c p) (pf n p) (ps n p) else skr n c p
theorem skr_b {n : Nat} {c : Int32} (hn : n < 7) (u v : Nat) : ∀ P, P ≤ pcn n n → (bt (skr n c P u) v = true ↔ ∃ p, p < P ∧ bt c p = true ∧ pr2 u v (pf n p) (ps n p)) := fun P hP => by
  have h3 := (p_3 n hn).1
  have := fold_b (u := u) (v := v) (g := skr n c) (c := fun p => bt c p) (x := pf n) (y := ps n) (n := pcn n n) (fun _ _ => rfl) (fun s hs => by have := p_2 n hn s (by omega) hs; omega) (fun s hs => by have := p_2 n hn s (by omega) hs; omega) P hP
  rw [this]
  constructor
  · rintro (z | z)
    · rw [show bt (skr n c 0 u) v = false from b_0 v] at z; cases z
    · exact z
  · exact Or.inr
theorem skr_at {n : Nat} {c : Int32} (hn : n < 7) {a b : Nat} (hab : a < b) (hb : b < n) : bt (skr n c (pcn n n) a) b = bt c (pidx n a b) := Bool.eq_iff_iff.mpr (by
  have h3 := (p_3 n hn).1
  obtain ⟨q1, q2, q3⟩ := p_1 n hn a (by omega) b (by omega) hab hb
  rw [skr_b hn a b _ (Nat.le_refl _)]
  constructor
  · rintro ⟨p, h1, h2, h | h⟩
    · have := p_2 n hn p (by omega) h1
      rw [h.1, h.2, this.2.2]; exact h2
    · have := p_2 n hn p (by omega) h1
      omega
  · exact fun h => ⟨pidx n a b, q1, h, Or.inl ⟨q2.symm, q3.symm⟩⟩)
theorem skr_sym {n : Nat} {c : Int32} (hn : n < 7) (u v : Nat) : bt (skr n c (pcn n n) u) v = bt (skr n c (pcn n n) v) u := Bool.eq_iff_iff.mpr (by
  rw [skr_b hn u v _ (Nat.le_refl _), skr_b hn v u _ (Nat.le_refl _)]
  constructor
  · rintro ⟨p, h1, h2, h | h⟩
    · exact ⟨p, h1, h2, Or.inr ⟨h.2, h.1⟩⟩
    · exact ⟨p, h1, h2, Or.inl ⟨h.2, h.1⟩⟩
  · rintro ⟨p, h1, h2, h | h⟩
    · exact ⟨p, h1, h2, Or.inr ⟨h.2, h.1⟩⟩
    · exact ⟨p, h1, h2, Or.inl ⟨h.2, h.1⟩⟩)
abbrev pmx (n x y : Nat) : Nat := pidx n (min x y) (max x y)
def img (n : Nat) (c : Int32) (q : Nat → Nat) : Nat → Int32
  | 0 => nI 0
  | p + 1 => if bt c p = true then img n c q p ||| b1 (pmx n (q (pf n p)) (q (ps n p))) else img n c q p
theorem pmx_lt {n x y : Nat} (hn : n < 7) (hx : x < n) (hy : y < n) (h : x ≠ y) : pmx n x y < pcn n n := by
  have := p_1 n hn (min x y) (by omega) (max x y) (by omega) (by omega) (by omega)
  exact this.1
theorem img_bits {n : Nat} {c : Int32} {q : Nat → Nat} (hn : n < 7) (hq : isP n q) : ∀ P, P ≤ pcn n n → ∀ i, bt (img n c q P) i = true → i < pcn n n
  | 0, _, i, h => by rw [show bt (img n c q 0) i = false from b_0 i] at h; cases h
  | P + 1, hP, i, h => by
    have h3 := (p_3 n hn).1
    rw [img] at h
    split at h
    · obtain ⟨g1, g2, _⟩ := p_2 n hn P (by omega) (by omega)
      have hl := pmx_lt hn (hq.1 _ (show pf n P < n by omega)) (hq.1 _ g2) (fun z => by have := hq.2 _ _ (show pf n P < n by omega) g2 z; omega)
      rw [bt_or1 _ (by omega), Bool.or_eq_true, decide_eq_true_eq] at h
      rcases h with h | h
      · exact img_bits hn hq P (by omega) i h
      · omega
    · exact img_bits hn hq P (by omega) i h
theorem img_cong {n : Nat} {c : Int32} {q r : Nat → Nat} (hn : n < 7) (e : eqN n q r) : ∀ P, P ≤ pcn n n → img n c q P = img n c r P
  | 0, _ => rfl
  | P + 1, hP => by
    have h3 := (p_3 n hn).1
    obtain ⟨g1, g2, _⟩ := p_2 n hn P (by omega) (by omega)
    rw [img, img, img_cong hn e P (by omega), e _ (show pf n P < n by omega), e _ g2]
theorem img_id {n : Nat} {c : Int32} (hn : n < 7) (hc : ∀ i, bt c i = true → i < pcn n n) : img n c (fun i => i) (pcn n n) = c := by
  have h3 := (p_3 n hn).1
  have key : ∀ P, P ≤ pcn n n → ∀ i, bt (img n c (fun i => i) P) i = true ↔ i < P ∧ bt c i = true := by
    intro P
    induction P with
    | zero => intro _ i; rw [show bt (img n c (fun i => i) 0) i = false from b_0 i]; exact ⟨fun z => (by cases z), fun z => absurd z.1 (by omega)⟩
    | succ P ih =>
      intro hP i
      obtain ⟨g1, g2, g3⟩ := p_2 n hn P (by omega) (by omega)
      have e : pmx n (pf n P) (ps n P) = P := by
        show pidx n (min _ _) (max _ _) = P
        rw [Nat.min_eq_left (by omega), Nat.max_eq_right (by omega)]; exact g3
      rw [img]
      by_cases q : bt c P = true
      · rw [if_pos q, bt_or1 _ (by show pmx n (pf n P) (ps n P) < 32; omega), Bool.or_eq_true, decide_eq_true_eq, ih (by omega) i]
        show (i < P ∧ bt c i = true) ∨ i = pmx n (pf n P) (ps n P) ↔ _
        rw [e]
        constructor
        · rintro (z | z)
          · exact ⟨by omega, z.2⟩
          · rw [z]; exact ⟨by omega, q⟩
        · rintro ⟨z1, z2⟩
          by_cases w : i = P
          · exact Or.inr w
          · exact Or.inl ⟨by omega, z2⟩
      · rw [if_neg q, ih (by omega) i]
        constructor
        · rintro ⟨z1, z2⟩; exact ⟨by omega, z2⟩
        · rintro ⟨z1, z2⟩
          by_cases w : i = P
          · rw [w] at z2; exact absurd z2 q
          · exact ⟨by omega, z2⟩
  refine b_ext fun i _ => Bool.eq_iff_iff.mpr ?_
  rw [key _ (Nat.le_refl _) i]
  exact ⟨And.right, fun z => ⟨hc i z, z⟩⟩
def dgk (d : Nat) (f : Nat → Int32) : Nat → Bool
  | 0 => true
  | v + 1 => dgk d f v && decide (pc32 (f v) ≤ d)
def fit (n d k : Nat) (c : Int32) : Bool := dgk d (skr n c (pcn n n)) n && decide (cfar n (skr n c (pcn n n)) (allB n) ≤ min k 99)
abbrev wSm (told : Bool) (pr mn kd fw ls nn : Int32) (Fa Sa Is : Nat → Int32) (sn g sm : Int32) (D : Nat → Int32) (xn xd : Int32) (f Tu Im : Nat → Int32) : List zE := [zH, zO 4 [zr 2 0, zr 3 0, zr 4 0, zr 5 0, zr 7 0, zi (bI told), zi pr, zi mn, zi kd, zi fw, zi ls, zr 9 0, zr 10 0, zi nn], zAi 0 15 Fa, zAi 0 15 Sa, zAi 2 32768 Is, eFl 6 sn g sm, zAi 0 24 D, eNet 8 xn xd, zAi 0 24 f, zAi 0 6 Tu, zAi 0 15 Im]
def prA (n : Nat) (Fa Sa : Nat → Int32) : Prop := ∀ p, p < pcn n n → Fa p = nI (pf n p) ∧ Sa p = nI (ps n p)
theorem c_smPair (n x y : Nat) (told : Bool) (pr mn kd fw ls nn : Int32) (Fa Sa : Nat → Int32) (hn : n < 7) (hx : x < n) (hy : y < n) (hxy : x ≠ y) (hP : prA n Fa Sa) : zCtr yX4_pair cX4_pair 4 (some .int) 1 0 0 [zr 1 0, zi (nI x), zi (nI y)] [zH, zO 4 [zr 2 0, zr 3 0, zr 4 0, zr 5 0, zr 7 0, zi (bI told), zi pr, zi mn, zi kd, zi fw, zi ls, zr 9 0, zr 10 0, zi nn], zAi 0 15 Fa, zAi 0 15 Sa, zH, zH, zH, zH, zH, zH, zH] (fun r w => r = some (zi (nI (pmx n x y))) ∧ w = [zH, zO 4 [zr 2 0, zr 3 0, zr 4 0, zr 5 0, zr 7 0, zi (bI told), zi pr, zi mn, zi kd, zi fw, zi ls, zr 9 0, zr 10 0, zi nn], zAi 0 15 Fa, zAi 0 15 Sa, zH, zH, zH, zH, zH, zH, zH]) zNx := by
  refine z_start (by decide) [some (zr 1 0), some (zi (nI x)), some (zi (nI y)), none] rfl (fun _ => Nat.le_of_ble_eq_true rfl) (fun _ => rfl) (fun X F E hno hin => ?_)
  have h3 := (p_3 n hn).1
  have hl := pmx_lt hn hx hy hxy
  obtain ⟨_, k2, k3⟩ := p_1 n hn (min x y) (by omega) (max x y) (by omega) (by omega) (by omega)
  have loop : ∀ (m p : Nat), pmx n x y - p < m → p ≤ pmx n x y → Z X [some (zr 1 0), some (zi (nI x)), some (zi (nI y)), some (zi (nI p))] [] [zH, zO 4 [zr 2 0, zr 3 0, zr 4 0, zr 5 0, zr 7 0, zi (bI told), zi pr, zi mn, zi kd, zi fw, zi ls, zr 9 0, zr 10 0, zi nn], zAi 0 15 Fa, zAi 0 15 Sa, zH, zH, zH, zH, zH, zH, zH] 0 0 2 := by
    intro m
    induction m with
    | zero => intro p hm; omega
    | succ m ih =>
      intro p hm hp
      obtain ⟨e1, e2⟩ := hP p (by omega)
      obtain ⟨g1, g2, g3⟩ := p_2 n hn p (by omega) (by omega)
      have ne : (¬ pf n p = min x y ∨ ¬ ps n p = max x y) → p ≠ pmx n x y := fun z w => by
        rw [w] at z
        exact z.elim (fun q => q k2) (fun q => q k3)
      refine z_aload_n F dX4_pair_2 rfl ?_
      refine z_get F zC4 (f := 0) rfl (Nat.le_of_ble_eq_true rfl) q265 rfl dX4_pair_3 ?_
      refine z_iload_n F dX4_pair_6 rfl ?_
      refine z_ialdN F rfl (Nat.le_of_ble_eq_true rfl) (by omega) rfl dX4_pair_7 ?_
      refine z_ieq (e1) ?_
      refine z_iload_n F dX4_pair_8 rfl ?_
      refine z_iload_n F dX4_pair_9 rfl ?_
      refine z_mmin F q1035 dX4_pair_10 (Nat.le_of_ble_eq_true rfl) rfl (Nat.le_of_ble_eq_true rfl) ⟨by omega, by omega⟩ ?_
      refine z_ieq (mminN (by omega) (by omega)) ?_
      refine z_icmp_neN F (by omega) (by omega) (tgt := 30) dX4_pair_13 (by decide) (fun c_13 => ?_) (fun c_13 => ?_)
      · refine z_iincN F 1 dX4_pair_30 rfl rfl ?_
        refine z_leq (L' := [_, _, _, _]) rfl ?_
        refine z_goto F (tgt := 2) dX4_pair_33 (by decide) ?_
        have := ne (Or.inl c_13)
        exact ih (p + 1) (by omega) (by omega)
      · refine z_aload_n F dX4_pair_16 rfl ?_
        refine z_get F zC4 (f := 1) rfl (Nat.le_of_ble_eq_true rfl) q266 rfl dX4_pair_17 ?_
        refine z_iload_n F dX4_pair_20 rfl ?_
        refine z_ialdN F rfl (Nat.le_of_ble_eq_true rfl) (by omega) rfl dX4_pair_21 ?_
        refine z_ieq (e2) ?_
        refine z_iload_n F dX4_pair_22 rfl ?_
        refine z_iload_n F dX4_pair_23 rfl ?_
        refine z_mmax F q1045 dX4_pair_24 (Nat.le_of_ble_eq_true rfl) rfl (Nat.le_of_ble_eq_true rfl) ⟨by omega, by omega⟩ ?_
        refine z_ieq (mmaxN (by omega) (by omega)) ?_
        refine z_icmp_eqN F (by omega) (by omega) (tgt := 36) dX4_pair_27 (by decide) (fun c_27 => ?_) (fun c_27 => ?_)
        · refine z_iload_n F dX4_pair_36 rfl ?_
          exact z_iret F E rfl dX4_pair_37 (by omega) (by omega) (⟨by rw [show p = pmx n x y from by rw [← g3, c_13, c_27]], rfl⟩)
        · refine z_iincN F 1 dX4_pair_30 rfl rfl ?_
          refine z_leq (L' := [_, _, _, _]) rfl ?_
          refine z_goto F (tgt := 2) dX4_pair_33 (by decide) ?_
          have := ne (Or.inr c_27)
          exact ih (p + 1) (by omega) (by omega)
  refine z_iconst F (nI 0) dX4_pair_0 rfl ?_
  refine z_istore_n F dX4_pair_1 (Nat.le_of_ble_eq_true rfl) ?_
  refine z_leq (L' := [_, _, _, _]) rfl ?_
  exact loop _ 0 (Nat.lt_succ_self _) (Nat.zero_le _)
end C9j
