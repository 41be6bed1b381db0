/-! grow: WiredNets' grows; the reference's pulls -/
section C64
/-- the ends of the lines that are pulled -/
def gE (a b : Nat) : Int32 := b1 a ||| b1 b
theorem bt_gE {a b i : Nat} (ha : a < 32) (hb : b < 32) : bt (gE a b) i = (decide (i = a) || decide (i = b)) := by
  unfold gE; rw [b_or, bt_b1 ha, bt_b1 hb]
/-- the knots up to j are joined with the new one -/
def gst (base y : Nat → Int32) (n : Nat) (S : Int32) (j : Nat) : Prop := ∀ k, k < 24 → ∀ i, i < 32 → bt (y k) i = (bt (base k) i || (decide (i = n) && (bt S k && decide (k < j))) || (decide (k = n) && (bt S i && decide (i < j))))
theorem gst_0 {base y : Nat → Int32} {n : Nat} {S : Int32} (h : ∀ k, k < 24 → y k = base k) : gst base y n S 0 := fun k hk i hi => by rw [h k hk]; simp
theorem gst_skip {base y : Nat → Int32} {n : Nat} {S : Int32} {j m : Nat} (h : gst base y n S j) (h0 : ∀ k, j ≤ k → k < m → bt S k = false) (hjm : j ≤ m) : gst base y n S m := fun k hk i hi => by
  have e : ∀ x, (bt S x && decide (x < m)) = (bt S x && decide (x < j)) := fun x => by
    by_cases q : x < j
    · rw [decide_eq_true q, decide_eq_true (show x < m by omega)]
    · by_cases q2 : x < m
      · rw [h0 x (by omega) q2]; rfl
      · rw [decide_eq_false q, decide_eq_false q2]
  rw [h k hk i hi, e k, e i]
theorem gst_step {base y : Nat → Int32} {n : Nat} {S : Int32} {j : Nat} (h : gst base y n S j) (hn : n < 24) (hj : j < 24) (hS : bt S j = true) (hSn : bt S n = false) : gst base (jn y n j) n S (j + 1) := fun k hk i hi => by
  have e : ∀ x, (bt S x && decide (x < j + 1)) = ((bt S x && decide (x < j)) || decide (x = j)) := fun x => by
    by_cases q : x = j
    · subst q; rw [hS]; simp
    · rw [decide_eq_false q, Bool.or_false]
      congr 1
      exact decide_eq_decide.mpr (by omega)
  rw [bt_jn (by omega) (by omega), h k hk i hi, e k, e i]
  cases bt (base k) i <;> cases decide (i = n) <;> cases decide (k = n) <;> cases (bt S k && decide (k < j)) <;> cases (bt S i && decide (i < j)) <;> cases decide (k = j) <;> cases decide (i = j) <;> rfl
theorem gst_end1 {f y : Nat → Int32} {n a b : Nat} (h : gst (pt f a b) y n (gE a b) 32) (hn : n < 24) (ha : a < n) (hb : b < n) : ∀ k, k < 24 → y k = gr1 f n a b k := fun k hk => b_ext fun i hi => by
  rw [h k hk i hi]
  unfold gr1
  rw [bt_jn (by omega) (by omega), bt_jn (by omega) (by omega), bt_gE (by omega) (by omega), bt_gE (by omega) (by omega), decide_eq_true (show k < 32 by omega), decide_eq_true hi]
  cases bt (pt f a b k) i <;> cases decide (i = n) <;> cases decide (k = n) <;> cases decide (k = a) <;> cases decide (k = b) <;> cases decide (i = a) <;> cases decide (i = b) <;> rfl
theorem gst_end2 {f y : Nat → Int32} {n a b c e : Nat} (h : gst (pt (pt f a b) c e) y n (gE a b ||| gE c e) 32) (hn : n < 24) (ha : a < n) (hb : b < n) (hc : c < n) (he : e < n) : ∀ k, k < 24 → y k = gr1 (gr1 f n a b) n c e k := fun k hk => b_ext fun i hi => by
  rw [h k hk i hi]
  unfold gr1
  rw [bt_jn (by omega) (by omega), bt_jn (by omega) (by omega), bt_pt (f := pt f a b) (a := c) (b := e) (by omega) (by omega) k hi, bt_pt (f := jn (jn (pt f a b) a n) b n) (a := c) (b := e) (by omega) (by omega) k hi, bt_jn (by omega) (by omega), bt_jn (by omega) (by omega), b_or, b_or, bt_gE (by omega) (by omega), bt_gE (by omega) (by omega), bt_gE (by omega) (by omega), bt_gE (by omega) (by omega), decide_eq_true (show k < 32 by omega), decide_eq_true hi]
  by_cases q1 : i = n
  · have z1 : ¬ i = c := by omega
    have z2 : ¬ i = e := by omega
    have z3 : ¬ i = a := by omega
    have z4 : ¬ i = b := by omega
    simp only [decide_eq_true q1, decide_eq_false z1, decide_eq_false z2, decide_eq_false z3, decide_eq_false z4]
    cases bt (pt f a b k) i <;> cases decide (k = n) <;> cases decide (k = a) <;> cases decide (k = b) <;> cases decide (k = c) <;> cases decide (k = e) <;> rfl
  · by_cases q2 : k = n
    · have z1 : ¬ k = c := by omega
      have z2 : ¬ k = e := by omega
      have z3 : ¬ k = a := by omega
      have z4 : ¬ k = b := by omega
      simp only [decide_eq_false q1, decide_eq_true q2, decide_eq_false z1, decide_eq_false z2, decide_eq_false z3, decide_eq_false z4]
      cases bt (pt f a b k) i <;> cases decide (i = a) <;> cases decide (i = b) <;> cases decide (i = c) <;> cases decide (i = e) <;> rfl
    · simp only [decide_eq_false q1, decide_eq_false q2]
      simp
set_option maxHeartbeats 4000000 in
theorem c_grows1 (n n' : Nat) (d d' : Int32) (f y : Nat → Int32) (a b : Nat) (hn : n < 24) (ha : a < n) (hb : b < n) (hab : a ≠ b) (hz : ∀ k, n ≤ k → k < 24 → f k = nI 0) (hy : ∀ k, n < k → k < 24 → y k = nI 0) :
    zCtr yX1_grows cX1_grows 7 (some .boolean) 1 0 0 [zr 1 0, zr 3 0, zi (nI (32 * a + b)), zi (-1)] [zH, eNet 2 (nI n') d', zAi 0 24 y, eNet 4 (nI n) d, zAi 0 24 f] (fun r w => r = some (zi (bI true)) ∧ ∃ g, w = [zH, eNet 2 (nI n') d', zAi 0 24 g, eNet 4 (nI n) d, zAi 0 24 f] ∧ ∀ k, k < 24 → g k = gr1 f n a b k) zNx := by
  refine z_start (by decide) [some (zr 1 0), some (zr 3 0), some (zi (nI (32 * a + b))), some (zi (-1)), none, none, none] rfl (fun _ => Nat.le_of_ble_eq_true rfl) (fun _ => rfl) (fun X F E hno hin => ?_)
  have hSn : bt (gE a b) n = false := by rw [bt_gE (by omega) (by omega)]; simp [show ¬ n = a by omega, show ¬ n = b by omega]
  have hE0 : gE a b ||| nI 0 = gE a b := b_ext fun i _ => by rw [b_or, show bt (nI 0) i = false from b_0 i, Bool.or_false]
  have bits : ∀ (m : Nat) (x : Int32) (q : Nat) (g : Nat → Int32), pc32 x < m → upto (gE a b) q x → q ≤ 32 → gst (pt f a b) g n (gE a b) q → Z X [some (zr 1 0), some (zr 3 0), some (zi (nI (32 * a + b))), some (zi (-1)), none, none, some (zi x)] [] [zH, eNet 2 (nI n') d', zAi 0 24 g, eNet 4 (nI n) d, zAi 0 24 f] 0 0 123 := by
    intro m
    induction m with
    | zero => intro x q g hm; omega
    | succ m ih =>
      intro x q g hm hu hq hg
      refine z_iload F dX1_grows_123 rfl ?_
      refine z_if_eq F (tgt := 153) dX1_grows_125 (by decide) (fun c_125 => ?_) (fun c_125 => ?_)
      · subst c_125
        have hend := gst_end1 (gst_skip hg (fun k a b => upto_end hu k a b) hq) hn ha hb
        refine z_iconstB F true dX1_grows_153 rfl ?_
        exact z_zret F E rfl rfl dX1_grows_154 (by omega) (by omega) (⟨rfl, g, rfl, hend⟩)
      · obtain ⟨i, hi, hji, hS, hSk, hy1, hy0, hu2, hpc⟩ := upto_low hu c_125
        have hi2 : i = a ∨ i = b := by rw [bt_gE (by omega) (by omega)] at hS; simpa using hS
        have hst := gst_step (gst_skip hg (fun k a b => hSk k a b) hji) hn (by omega) hS hSn
        refine z_aload_n F dX1_grows_128 rfl ?_
        refine z_aload_n F dX1_grows_129 rfl ?_
        refine z_getN F zC5 (f := 0) rfl (Nat.le_of_ble_eq_true rfl) q245 rfl dX1_grows_130 ?_
        refine z_iload F dX1_grows_133 rfl ?_
        refine z_callS F (c_ntz x i hi hy1 hy0) 1 rfl (lw_S q1219 q808 q123 q809) (by decide +kernel) ⟨Nat.le_of_ble_eq_true rfl, Nat.le_of_ble_eq_true rfl⟩ ⟨by omega, by omega⟩ [0] 5 ⟨rfl, rfl, rfl, ⟨Or.inl rfl, trivial⟩⟩ (fun h => nomatch h) (Nat.le_of_ble_eq_true rfl) ⟨⟨Or.inr trivial, Or.inr rfl, Or.inr trivial, Or.inr rfl, Or.inr trivial, trivial⟩, rfl, rfl, rfl, Nat.le_of_ble_eq_true rfl⟩ rfl rfl dX1_grows_135 (fun r_135 w_135 hp => ?_) (fun _ _ h => h.elim)
        obtain ⟨rfl, rfl⟩ := hp
        refine z_weq (w' := [zH, zO _ [zi _, zi _, zr _ _], zAi 0 24 _, zO _ [zi _, zi _, zr _ _], zAi 0 24 _]) rfl ?_
        refine z_seq (S' := zi _ :: _) rfl ?_
        refine z_callV F (c_setj (nI n') d' g n i (by omega) (by omega)) 2 rfl (lw_V q516 q418 q419 q116 q420) (by decide +kernel) ⟨Nat.le_of_ble_eq_true rfl, Nat.le_of_ble_eq_true rfl⟩ ⟨by omega, by omega⟩ [0, 1, 2] 5 ⟨rfl, rfl, rfl, ⟨Or.inl rfl, Or.inr rfl, Or.inr rfl, trivial⟩⟩ (fun h => nomatch h) (Nat.le_of_ble_eq_true rfl) ⟨⟨Or.inr trivial, Or.inl rfl, Or.inl rfl, Or.inr rfl, Or.inr trivial, trivial⟩, rfl, rfl, rfl, Nat.le_of_ble_eq_true rfl⟩ rfl zC5 rfl rfl dX1_grows_138 (fun r_138 w_138 hp => ?_) (fun _ _ h => h.elim)
        obtain ⟨rfl, rfl⟩ := hp
        refine z_weq (w' := [zH, zO _ [zi _, zi _, zr _ _], zAi 0 24 _, zO _ [zi _, zi _, zr _ _], zAi 0 24 _]) rfl ?_
        refine z_seq (S' := []) rfl ?_
        refine z_iload F dX1_grows_141 rfl ?_
        refine z_iload F dX1_grows_143 rfl ?_
        refine z_iconst F (nI 1) dX1_grows_145 rfl ?_
        refine z_isub F dX1_grows_146 ?_
        refine z_iand F dX1_grows_147 ?_
        refine z_istore F dX1_grows_148 (Nat.le_of_ble_eq_true rfl) ?_
        refine z_leq (L' := [_, _, _, _, _, _, _]) rfl ?_
        refine z_goto F (tgt := 123) dX1_grows_150 (by decide) ?_
        exact ih _ (i + 1) _ (by omega) hu2 (by omega) hst
  have copy : ∀ (m k : Nat) (g : Nat → Int32), n - k < m → k ≤ n → (∀ i, i < k → g i = f i) → (∀ i, n < i → i < 24 → g i = nI 0) → Z X [some (zr 1 0), some (zr 3 0), some (zi (nI (32 * a + b))), some (zi (-1)), some (zi (gE a b)), some (zi (nI 0)), some (zi (nI k))] [] [zH, eNet 2 (nI n') d', zAi 0 24 g, eNet 4 (nI n) d, zAi 0 24 f] 0 0 50 := by
    intro m
    induction m with
    | zero => intro k g hm; omega
    | succ m ih =>
      intro k g hm hk h1 h2
      refine z_iload F dX1_grows_50 rfl ?_
      refine z_aload_n F dX1_grows_52 rfl ?_
      refine z_getN F zC5 (f := 0) rfl (Nat.le_of_ble_eq_true rfl) q245 rfl dX1_grows_53 ?_
      refine z_icmp_geN F (by omega) (by omega) (tgt := 79) dX1_grows_56 (by decide) (fun c_56 => ?_) (fun c_56 => ?_)
      · have ek : k = n := by omega
        subst ek
        refine z_aload_n F dX1_grows_79 rfl ?_
        refine z_getN F zC5 (f := 2) rfl (Nat.le_of_ble_eq_true rfl) q256 rfl dX1_grows_80 ?_
        refine z_aload_n F dX1_grows_83 rfl ?_
        refine z_getN F zC5 (f := 0) rfl (Nat.le_of_ble_eq_true rfl) q245 rfl dX1_grows_84 ?_
        refine z_iconst F (nI 0) dX1_grows_87 rfl ?_
        refine z_iastN F rfl (Nat.le_of_ble_eq_true rfl) (by omega) dX1_grows_88 ?_
        refine z_weq (w' := [_, _, _, _, _]) rfl ?_
        refine z_aload_n F dX1_grows_89 rfl ?_
        refine z_iload_n F dX1_grows_90 rfl ?_
        refine z_iconst F (nI 5) dX1_grows_91 rfl ?_
        refine z_ishr F dX1_grows_92 ?_
        refine z_ieq (pc_hi (by omega) (by omega)) ?_
        refine z_iload_n F dX1_grows_93 rfl ?_
        refine z_bipush F (nI 31) dX1_grows_94 rfl ?_
        refine z_iand F dX1_grows_96 ?_
        refine z_ieq (pc_lo (by omega) (by omega)) ?_
        refine z_callV F (c_clear (nI n') d' (upd g k (nI 0)) a b (by omega) (by omega)) 2 rfl (lw_V q525 q526 q527 q116 q528) (by decide +kernel) ⟨Nat.le_of_ble_eq_true rfl, Nat.le_of_ble_eq_true rfl⟩ ⟨by omega, by omega⟩ [0, 1, 2] 5 ⟨rfl, rfl, rfl, ⟨Or.inl rfl, Or.inr rfl, Or.inr rfl, trivial⟩⟩ (fun h => nomatch h) (Nat.le_of_ble_eq_true rfl) ⟨⟨Or.inr trivial, Or.inl rfl, Or.inl rfl, Or.inr rfl, Or.inr trivial, trivial⟩, rfl, rfl, rfl, Nat.le_of_ble_eq_true rfl⟩ rfl zC5 rfl rfl dX1_grows_97 (fun r_97 w_97 hp => ?_) (fun _ _ h => h.elim)
        obtain ⟨rfl, rfl⟩ := hp
        refine z_weq (w' := [zH, zO _ [zi _, zi _, zr _ _], zAi 0 24 _, zO _ [zi _, zi _, zr _ _], zAi 0 24 _]) rfl ?_
        refine z_seq (S' := []) rfl ?_
        refine z_iload_n F dX1_grows_100 rfl ?_
        refine z_iconst F (-1) dX1_grows_101 rfl ?_
        refine z_icmp_eq F (tgt := 116) dX1_grows_102 (by decide) (fun c_102 => ?_) (fun c_102 => ?_)
        · refine z_iload F dX1_grows_116 rfl ?_
          refine z_iload F dX1_grows_118 rfl ?_
          refine z_ior F dX1_grows_120 ?_
          refine z_ieq (show _ = gE a b from hE0) ?_
          refine z_istore F dX1_grows_121 (Nat.le_of_ble_eq_true rfl) ?_
          refine z_leq (L' := [_, _, _, _, _, _, _]) rfl ?_
          refine z_loc [some (zr 1 0), some (zr 3 0), some (zi (nI (32 * a + b))), some (zi (-1)), none, none, some (zi (gE a b))] ⟨rfl, rfl, rfl, rfl, rfl, trivial⟩ ?_
          refine bits _ _ 0 _ (Nat.lt_succ_self _) (upto_0 _) (by omega) (gst_0 fun i hi => pt_cong (fun i hi => ?_) (by omega) (by omega) hi)
          rw [upd_at]
          by_cases q : i = k
          · rw [if_pos q, q, hz k (Nat.le_refl _) hn]
          · rw [if_neg q]
            by_cases q2 : i < k
            · exact h1 i q2
            · rw [h2 i (by omega) hi, hz i (by omega) hi]
        · exact absurd rfl c_102
      · refine z_aload_n F dX1_grows_59 rfl ?_
        refine z_getN F zC5 (f := 2) rfl (Nat.le_of_ble_eq_true rfl) q256 rfl dX1_grows_60 ?_
        refine z_iload F dX1_grows_63 rfl ?_
        refine z_aload_n F dX1_grows_65 rfl ?_
        refine z_getN F zC5 (f := 2) rfl (Nat.le_of_ble_eq_true rfl) q256 rfl dX1_grows_66 ?_
        refine z_iload F dX1_grows_69 rfl ?_
        refine z_ialdN F rfl (Nat.le_of_ble_eq_true rfl) (by omega) rfl dX1_grows_71 ?_
        refine z_iastN F rfl (Nat.le_of_ble_eq_true rfl) (by omega) dX1_grows_72 ?_
        refine z_weq (w' := [_, _, _, _, _]) rfl ?_
        refine z_iincN F 1 dX1_grows_73 rfl rfl ?_
        refine z_leq (L' := [_, _, _, _, _, _, _]) rfl ?_
        refine z_goto F (tgt := 50) dX1_grows_76 (by decide) ?_
        refine ih (k + 1) _ (by omega) (by omega) (fun i hi => ?_) (fun i hi hi2 => ?_)
        · rw [upd_at]
          by_cases q : i = k
          · rw [if_pos q, q]
          · rw [if_neg q]; exact h1 i (by omega)
        · rw [upd_at, if_neg (by omega)]; exact h2 i hi hi2
  refine z_iconst F (nI 1) dX1_grows_0 rfl ?_
  refine z_iload_n F dX1_grows_1 rfl ?_
  refine z_iconst F (nI 5) dX1_grows_2 rfl ?_
  refine z_ishr F dX1_grows_3 ?_
  refine z_ieq (pc_hi (by omega) (by omega)) ?_
  refine z_ishl F dX1_grows_4 ?_
  refine z_iconst F (nI 1) dX1_grows_5 rfl ?_
  refine z_iload_n F dX1_grows_6 rfl ?_
  refine z_bipush F (nI 31) dX1_grows_7 rfl ?_
  refine z_iand F dX1_grows_9 ?_
  refine z_ieq (pc_lo (by omega) (by omega)) ?_
  refine z_ishl F dX1_grows_10 ?_
  refine z_ior F dX1_grows_11 ?_
  refine z_ieq (show _ = gE a b from rfl) ?_
  refine z_istore F dX1_grows_12 (Nat.le_of_ble_eq_true rfl) ?_
  refine z_leq (L' := [_, _, _, _, _, _, _]) rfl ?_
  refine z_iload_n F dX1_grows_14 rfl ?_
  refine z_iconst F (-1) dX1_grows_15 rfl ?_
  refine z_icmp_ne F (tgt := 23) dX1_grows_16 (by decide) (fun c_16 => ?_) (fun c_16 => ?_)
  · exact absurd rfl c_16
  · refine z_iconst F (nI 0) dX1_grows_19 rfl ?_
    refine z_goto F (tgt := 35) dX1_grows_20 (by decide) ?_
    refine z_istore F dX1_grows_35 (Nat.le_of_ble_eq_true rfl) ?_
    refine z_leq (L' := [_, _, _, _, _, _, _]) rfl ?_
    refine z_iload F dX1_grows_37 rfl ?_
    refine z_iload F dX1_grows_39 rfl ?_
    refine z_iand F dX1_grows_41 ?_
    refine z_if_eq F (tgt := 47) dX1_grows_42 (by decide) (fun c_42 => ?_) (fun c_42 => ?_)
    · refine z_iconst F (nI 0) dX1_grows_47 rfl ?_
      refine z_istore F dX1_grows_48 (Nat.le_of_ble_eq_true rfl) ?_
      refine z_leq (L' := [_, _, _, _, _, _, _]) rfl ?_
      exact copy _ 0 y (Nat.lt_succ_self _) (by omega) (fun i hi => by omega) hy
    · exact absurd (b_ext fun i _ => by rw [b_and, show bt (nI 0) i = false from b_0 i, Bool.and_false]; exact (b_0 i).symm) c_42
set_option maxHeartbeats 4000000 in
theorem c_grows2 (n n' : Nat) (d d' : Int32) (f y : Nat → Int32) (a b c e : Nat) (hn : n < 24) (ha : a < n) (hb : b < n) (hc : c < n) (he : e < n) (hz : ∀ k, n ≤ k → k < 24 → f k = nI 0) (hy : ∀ k, n < k → k < 24 → y k = nI 0) (hap : a ≠ c ∧ a ≠ e ∧ b ≠ c ∧ b ≠ e) :
    zCtr yX1_grows cX1_grows 7 (some .boolean) 1 0 0 [zr 1 0, zr 3 0, zi (nI (32 * a + b)), zi (nI (32 * c + e))] [zH, eNet 2 (nI n') d', zAi 0 24 y, eNet 4 (nI n) d, zAi 0 24 f] (fun r w => r = some (zi (bI true)) ∧ ∃ g, w = [zH, eNet 2 (nI n') d', zAi 0 24 g, eNet 4 (nI n) d, zAi 0 24 f] ∧ ∀ k, k < 24 → g k = gr1 (gr1 f n a b) n c e k) zNx := by
  refine z_start (by decide) [some (zr 1 0), some (zr 3 0), some (zi (nI (32 * a + b))), some (zi (nI (32 * c + e))), none, none, none] rfl (fun _ => Nat.le_of_ble_eq_true rfl) (fun _ => rfl) (fun X F E hno hin => ?_)
  have bE : ∀ i, bt (gE a b ||| gE c e) i = (decide (i = a) || decide (i = b) || (decide (i = c) || decide (i = e))) := fun i => by rw [b_or, bt_gE (by omega) (by omega), bt_gE (by omega) (by omega)]
  have hSn : bt (gE a b ||| gE c e) n = false := by rw [bE]; simp [show ¬ n = a by omega, show ¬ n = b by omega, show ¬ n = c by omega, show ¬ n = e by omega]
  have bits : ∀ (m : Nat) (x : Int32) (q : Nat) (g : Nat → Int32), pc32 x < m → upto (gE a b ||| gE c e) q x → q ≤ 32 → gst (pt (pt f a b) c e) g n (gE a b ||| gE c e) q → Z X [some (zr 1 0), some (zr 3 0), some (zi (nI (32 * a + b))), some (zi (nI (32 * c + e))), none, none, some (zi x)] [] [zH, eNet 2 (nI n') d', zAi 0 24 g, eNet 4 (nI n) d, zAi 0 24 f] 0 0 123 := by
    intro m
    induction m with
    | zero => intro x q g hm; omega
    | succ m ih =>
      intro x q g hm hu hq hg
      refine z_iload F dX1_grows_123 rfl ?_
      refine z_if_eq F (tgt := 153) dX1_grows_125 (by decide) (fun c_125 => ?_) (fun c_125 => ?_)
      · subst c_125
        have hend := gst_end2 (gst_skip hg (fun k a b => upto_end hu k a b) hq) hn ha hb hc he
        refine z_iconstB F true dX1_grows_153 rfl ?_
        exact z_zret F E rfl rfl dX1_grows_154 (by omega) (by omega) (⟨rfl, g, rfl, hend⟩)
      · obtain ⟨i, hi, hji, hS, hSk, hy1, hy0, hu2, hpc⟩ := upto_low hu c_125
        have hi2 : i = a ∨ i = b ∨ i = c ∨ i = e := by rw [bE] at hS; simpa [or_assoc] using hS
        have hst := gst_step (gst_skip hg (fun k a b => hSk k a b) hji) hn (by omega) hS hSn
        refine z_aload_n F dX1_grows_128 rfl ?_
        refine z_aload_n F dX1_grows_129 rfl ?_
        refine z_getN F zC5 (f := 0) rfl (Nat.le_of_ble_eq_true rfl) q245 rfl dX1_grows_130 ?_
        refine z_iload F dX1_grows_133 rfl ?_
        refine z_callS F (c_ntz x i hi hy1 hy0) 1 rfl (lw_S q1219 q808 q123 q809) (by decide +kernel) ⟨Nat.le_of_ble_eq_true rfl, Nat.le_of_ble_eq_true rfl⟩ ⟨by omega, by omega⟩ [0] 5 ⟨rfl, rfl, rfl, ⟨Or.inl rfl, trivial⟩⟩ (fun h => nomatch h) (Nat.le_of_ble_eq_true rfl) ⟨⟨Or.inr trivial, Or.inr rfl, Or.inr trivial, Or.inr rfl, Or.inr trivial, trivial⟩, rfl, rfl, rfl, Nat.le_of_ble_eq_true rfl⟩ rfl rfl dX1_grows_135 (fun r_135 w_135 hp => ?_) (fun _ _ h => h.elim)
        obtain ⟨rfl, rfl⟩ := hp
        refine z_weq (w' := [zH, zO _ [zi _, zi _, zr _ _], zAi 0 24 _, zO _ [zi _, zi _, zr _ _], zAi 0 24 _]) rfl ?_
        refine z_seq (S' := zi _ :: _) rfl ?_
        refine z_callV F (c_setj (nI n') d' g n i (by omega) (by omega)) 2 rfl (lw_V q516 q418 q419 q116 q420) (by decide +kernel) ⟨Nat.le_of_ble_eq_true rfl, Nat.le_of_ble_eq_true rfl⟩ ⟨by omega, by omega⟩ [0, 1, 2] 5 ⟨rfl, rfl, rfl, ⟨Or.inl rfl, Or.inr rfl, Or.inr rfl, trivial⟩⟩ (fun h => nomatch h) (Nat.le_of_ble_eq_true rfl) ⟨⟨Or.inr trivial, Or.inl rfl, Or.inl rfl, Or.inr rfl, Or.inr trivial, trivial⟩, rfl, rfl, rfl, Nat.le_of_ble_eq_true rfl⟩ rfl zC5 rfl rfl dX1_grows_138 (fun r_138 w_138 hp => ?_) (fun _ _ h => h.elim)
        obtain ⟨rfl, rfl⟩ := hp
        refine z_weq (w' := [zH, zO _ [zi _, zi _, zr _ _], zAi 0 24 _, zO _ [zi _, zi _, zr _ _], zAi 0 24 _]) rfl ?_
        refine z_seq (S' := []) rfl ?_
        refine z_iload F dX1_grows_141 rfl ?_
        refine z_iload F dX1_grows_143 rfl ?_
        refine z_iconst F (nI 1) dX1_grows_145 rfl ?_
        refine z_isub F dX1_grows_146 ?_
        refine z_iand F dX1_grows_147 ?_
        refine z_istore F dX1_grows_148 (Nat.le_of_ble_eq_true rfl) ?_
        refine z_leq (L' := [_, _, _, _, _, _, _]) rfl ?_
        refine z_goto F (tgt := 123) dX1_grows_150 (by decide) ?_
        exact ih _ (i + 1) _ (by omega) hu2 (by omega) hst
  have copy : ∀ (m k : Nat) (g : Nat → Int32), n - k < m → k ≤ n → (∀ i, i < k → g i = f i) → (∀ i, n < i → i < 24 → g i = nI 0) → Z X [some (zr 1 0), some (zr 3 0), some (zi (nI (32 * a + b))), some (zi (nI (32 * c + e))), some (zi (gE a b)), some (zi (gE c e)), some (zi (nI k))] [] [zH, eNet 2 (nI n') d', zAi 0 24 g, eNet 4 (nI n) d, zAi 0 24 f] 0 0 50 := by
    intro m
    induction m with
    | zero => intro k g hm; omega
    | succ m ih =>
      intro k g hm hk h1 h2
      refine z_iload F dX1_grows_50 rfl ?_
      refine z_aload_n F dX1_grows_52 rfl ?_
      refine z_getN F zC5 (f := 0) rfl (Nat.le_of_ble_eq_true rfl) q245 rfl dX1_grows_53 ?_
      refine z_icmp_geN F (by omega) (by omega) (tgt := 79) dX1_grows_56 (by decide) (fun c_56 => ?_) (fun c_56 => ?_)
      · have ek : k = n := by omega
        subst ek
        refine z_aload_n F dX1_grows_79 rfl ?_
        refine z_getN F zC5 (f := 2) rfl (Nat.le_of_ble_eq_true rfl) q256 rfl dX1_grows_80 ?_
        refine z_aload_n F dX1_grows_83 rfl ?_
        refine z_getN F zC5 (f := 0) rfl (Nat.le_of_ble_eq_true rfl) q245 rfl dX1_grows_84 ?_
        refine z_iconst F (nI 0) dX1_grows_87 rfl ?_
        refine z_iastN F rfl (Nat.le_of_ble_eq_true rfl) (by omega) dX1_grows_88 ?_
        refine z_weq (w' := [_, _, _, _, _]) rfl ?_
        refine z_aload_n F dX1_grows_89 rfl ?_
        refine z_iload_n F dX1_grows_90 rfl ?_
        refine z_iconst F (nI 5) dX1_grows_91 rfl ?_
        refine z_ishr F dX1_grows_92 ?_
        refine z_ieq (pc_hi (by omega) (by omega)) ?_
        refine z_iload_n F dX1_grows_93 rfl ?_
        refine z_bipush F (nI 31) dX1_grows_94 rfl ?_
        refine z_iand F dX1_grows_96 ?_
        refine z_ieq (pc_lo (by omega) (by omega)) ?_
        refine z_callV F (c_clear (nI n') d' (upd g k (nI 0)) a b (by omega) (by omega)) 2 rfl (lw_V q525 q526 q527 q116 q528) (by decide +kernel) ⟨Nat.le_of_ble_eq_true rfl, Nat.le_of_ble_eq_true rfl⟩ ⟨by omega, by omega⟩ [0, 1, 2] 5 ⟨rfl, rfl, rfl, ⟨Or.inl rfl, Or.inr rfl, Or.inr rfl, trivial⟩⟩ (fun h => nomatch h) (Nat.le_of_ble_eq_true rfl) ⟨⟨Or.inr trivial, Or.inl rfl, Or.inl rfl, Or.inr rfl, Or.inr trivial, trivial⟩, rfl, rfl, rfl, Nat.le_of_ble_eq_true rfl⟩ rfl zC5 rfl rfl dX1_grows_97 (fun r_97 w_97 hp => ?_) (fun _ _ h => h.elim)
        obtain ⟨rfl, rfl⟩ := hp
        refine z_weq (w' := [zH, zO _ [zi _, zi _, zr _ _], zAi 0 24 _, zO _ [zi _, zi _, zr _ _], zAi 0 24 _]) rfl ?_
        refine z_seq (S' := []) rfl ?_
        refine z_iload_n F dX1_grows_100 rfl ?_
        refine z_iconst F (-1) dX1_grows_101 rfl ?_
        refine z_icmp_eq F (tgt := 116) dX1_grows_102 (by decide) (fun c_102 => ?_) (fun c_102 => ?_)
        · exact absurd c_102 (nI_ne (by omega))
        · refine z_aload_n F dX1_grows_105 rfl ?_
          refine z_iload_n F dX1_grows_106 rfl ?_
          refine z_iconst F (nI 5) dX1_grows_107 rfl ?_
          refine z_ishr F dX1_grows_108 ?_
          refine z_ieq (pc_hi (by omega) (by omega)) ?_
          refine z_iload_n F dX1_grows_109 rfl ?_
          refine z_bipush F (nI 31) dX1_grows_110 rfl ?_
          refine z_iand F dX1_grows_112 ?_
          refine z_ieq (pc_lo (by omega) (by omega)) ?_
          refine z_callV F (c_clear (nI n') d' (pt (upd g k (nI 0)) a b) c e (by omega) (by omega)) 2 rfl (lw_V q525 q526 q527 q116 q528) (by decide +kernel) ⟨Nat.le_of_ble_eq_true rfl, Nat.le_of_ble_eq_true rfl⟩ ⟨by omega, by omega⟩ [0, 1, 2] 5 ⟨rfl, rfl, rfl, ⟨Or.inl rfl, Or.inr rfl, Or.inr rfl, trivial⟩⟩ (fun h => nomatch h) (Nat.le_of_ble_eq_true rfl) ⟨⟨Or.inr trivial, Or.inl rfl, Or.inl rfl, Or.inr rfl, Or.inr trivial, trivial⟩, rfl, rfl, rfl, Nat.le_of_ble_eq_true rfl⟩ rfl zC5 rfl rfl dX1_grows_113 (fun r_113 w_113 hp => ?_) (fun _ _ h => h.elim)
          obtain ⟨rfl, rfl⟩ := hp
          refine z_weq (w' := [zH, zO _ [zi _, zi _, zr _ _], zAi 0 24 _, zO _ [zi _, zi _, zr _ _], zAi 0 24 _]) rfl ?_
          refine z_seq (S' := []) rfl ?_
          refine z_iload F dX1_grows_116 rfl ?_
          refine z_iload F dX1_grows_118 rfl ?_
          refine z_ior F dX1_grows_120 ?_
          refine z_istore F dX1_grows_121 (Nat.le_of_ble_eq_true rfl) ?_
          refine z_leq (L' := [_, _, _, _, _, _, _]) rfl ?_
          refine z_loc [some (zr 1 0), some (zr 3 0), some (zi (nI (32 * a + b))), some (zi (nI (32 * c + e))), none, none, some (zi (gE a b ||| gE c e))] ⟨rfl, rfl, rfl, rfl, rfl, trivial⟩ ?_
          refine bits _ _ 0 _ (Nat.lt_succ_self _) (upto_0 _) (by omega) (gst_0 fun i hi => pt_cong (fun i hi => pt_cong (fun i hi => ?_) (by omega) (by omega) hi) (by omega) (by omega) hi)
          rw [upd_at]
          by_cases q : i = k
          · rw [if_pos q, q, hz k (Nat.le_refl _) hn]
          · rw [if_neg q]
            by_cases q2 : i < k
            · exact h1 i q2
            · rw [h2 i (by omega) hi, hz i (by omega) hi]
      · refine z_aload_n F dX1_grows_59 rfl ?_
        refine z_getN F zC5 (f := 2) rfl (Nat.le_of_ble_eq_true rfl) q256 rfl dX1_grows_60 ?_
        refine z_iload F dX1_grows_63 rfl ?_
        refine z_aload_n F dX1_grows_65 rfl ?_
        refine z_getN F zC5 (f := 2) rfl (Nat.le_of_ble_eq_true rfl) q256 rfl dX1_grows_66 ?_
        refine z_iload F dX1_grows_69 rfl ?_
        refine z_ialdN F rfl (Nat.le_of_ble_eq_true rfl) (by omega) rfl dX1_grows_71 ?_
        refine z_iastN F rfl (Nat.le_of_ble_eq_true rfl) (by omega) dX1_grows_72 ?_
        refine z_weq (w' := [_, _, _, _, _]) rfl ?_
        refine z_iincN F 1 dX1_grows_73 rfl rfl ?_
        refine z_leq (L' := [_, _, _, _, _, _, _]) rfl ?_
        refine z_goto F (tgt := 50) dX1_grows_76 (by decide) ?_
        refine ih (k + 1) _ (by omega) (by omega) (fun i hi => ?_) (fun i hi hi2 => ?_)
        · rw [upd_at]
          by_cases q : i = k
          · rw [if_pos q, q]
          · rw [if_neg q]; exact h1 i (by omega)
        · rw [upd_at, if_neg (by omega)]; exact h2 i hi hi2
  refine z_iconst F (nI 1) dX1_grows_0 rfl ?_
  refine z_iload_n F dX1_grows_1 rfl ?_
  refine z_iconst F (nI 5) dX1_grows_2 rfl ?_
  refine z_ishr F dX1_grows_3 ?_
  refine z_ieq (pc_hi (by omega) (by omega)) ?_
  refine z_ishl F dX1_grows_4 ?_
  refine z_iconst F (nI 1) dX1_grows_5 rfl ?_
  refine z_iload_n F dX1_grows_6 rfl ?_
  refine z_bipush F (nI 31) dX1_grows_7 rfl ?_
  refine z_iand F dX1_grows_9 ?_
  refine z_ieq (pc_lo (by omega) (by omega)) ?_
  refine z_ishl F dX1_grows_10 ?_
  refine z_ior F dX1_grows_11 ?_
  refine z_ieq (show _ = gE a b from rfl) ?_
  refine z_istore F dX1_grows_12 (Nat.le_of_ble_eq_true rfl) ?_
  refine z_leq (L' := [_, _, _, _, _, _, _]) rfl ?_
  refine z_iload_n F dX1_grows_14 rfl ?_
  refine z_iconst F (-1) dX1_grows_15 rfl ?_
  refine z_icmp_ne F (tgt := 23) dX1_grows_16 (by decide) (fun c_16 => ?_) (fun c_16 => ?_)
  · refine z_iconst F (nI 1) dX1_grows_23 rfl ?_
    refine z_iload_n F dX1_grows_24 rfl ?_
    refine z_iconst F (nI 5) dX1_grows_25 rfl ?_
    refine z_ishr F dX1_grows_26 ?_
    refine z_ieq (pc_hi (by omega) (by omega)) ?_
    refine z_ishl F dX1_grows_27 ?_
    refine z_iconst F (nI 1) dX1_grows_28 rfl ?_
    refine z_iload_n F dX1_grows_29 rfl ?_
    refine z_bipush F (nI 31) dX1_grows_30 rfl ?_
    refine z_iand F dX1_grows_32 ?_
    refine z_ieq (pc_lo (by omega) (by omega)) ?_
    refine z_ishl F dX1_grows_33 ?_
    refine z_ior F dX1_grows_34 ?_
    refine z_ieq (show _ = gE c e from rfl) ?_
    refine z_istore F dX1_grows_35 (Nat.le_of_ble_eq_true rfl) ?_
    refine z_leq (L' := [_, _, _, _, _, _, _]) rfl ?_
    refine z_iload F dX1_grows_37 rfl ?_
    refine z_iload F dX1_grows_39 rfl ?_
    refine z_iand F dX1_grows_41 ?_
    refine z_if_eq F (tgt := 47) dX1_grows_42 (by decide) (fun c_42 => ?_) (fun c_42 => ?_)
    · refine z_iconst F (nI 0) dX1_grows_47 rfl ?_
      refine z_istore F dX1_grows_48 (Nat.le_of_ble_eq_true rfl) ?_
      refine z_leq (L' := [_, _, _, _, _, _, _]) rfl ?_
      exact copy _ 0 y (Nat.lt_succ_self _) (by omega) (fun i hi => by omega) hy
    · exact absurd ((b1_and (by omega) (by omega) (by omega) (by omega)).mpr hap) c_42
  · exact absurd c_16 (nI_ne (by omega))
theorem c_grows0 (n n' : Nat) (d d' : Int32) (f y : Nat → Int32) (a b c e : Nat) (ha : a < 24) (hb : b < 24) (hc : c < 24) (he : e < 24) (hap : ¬ (a ≠ c ∧ a ≠ e ∧ b ≠ c ∧ b ≠ e)) :
    zCtr yX1_grows cX1_grows 7 (some .boolean) 1 0 0 [zr 1 0, zr 3 0, zi (nI (32 * a + b)), zi (nI (32 * c + e))] [zH, eNet 2 (nI n') d', zAi 0 24 y, eNet 4 (nI n) d, zAi 0 24 f] (fun r w => r = some (zi (bI false)) ∧ w = [zH, eNet 2 (nI n') d', zAi 0 24 y, eNet 4 (nI n) d, zAi 0 24 f]) zNx := by
  refine z_start (by decide) [some (zr 1 0), some (zr 3 0), some (zi (nI (32 * a + b))), some (zi (nI (32 * c + e))), none, none, none] rfl (fun _ => Nat.le_of_ble_eq_true rfl) (fun _ => rfl) (fun X F E hno hin => ?_)
  refine z_iconst F (nI 1) dX1_grows_0 rfl ?_
  refine z_iload_n F dX1_grows_1 rfl ?_
  refine z_iconst F (nI 5) dX1_grows_2 rfl ?_
  refine z_ishr F dX1_grows_3 ?_
  refine z_ieq (pc_hi (by omega) (by omega)) ?_
  refine z_ishl F dX1_grows_4 ?_
  refine z_iconst F (nI 1) dX1_grows_5 rfl ?_
  refine z_iload_n F dX1_grows_6 rfl ?_
  refine z_bipush F (nI 31) dX1_grows_7 rfl ?_
  refine z_iand F dX1_grows_9 ?_
  refine z_ieq (pc_lo (by omega) (by omega)) ?_
  refine z_ishl F dX1_grows_10 ?_
  refine z_ior F dX1_grows_11 ?_
  refine z_istore F dX1_grows_12 (Nat.le_of_ble_eq_true rfl) ?_
  refine z_leq (L' := [_, _, _, _, _, _, _]) rfl ?_
  refine z_iload_n F dX1_grows_14 rfl ?_
  refine z_iconst F (-1) dX1_grows_15 rfl ?_
  refine z_icmp_ne F (tgt := 23) dX1_grows_16 (by decide) (fun c_16 => ?_) (fun c_16 => ?_)
  · refine z_iconst F (nI 1) dX1_grows_23 rfl ?_
    refine z_iload_n F dX1_grows_24 rfl ?_
    refine z_iconst F (nI 5) dX1_grows_25 rfl ?_
    refine z_ishr F dX1_grows_26 ?_
    refine z_ieq (pc_hi (by omega) (by omega)) ?_
    refine z_ishl F dX1_grows_27 ?_
    refine z_iconst F (nI 1) dX1_grows_28 rfl ?_
    refine z_iload_n F dX1_grows_29 rfl ?_
    refine z_bipush F (nI 31) dX1_grows_30 rfl ?_
    refine z_iand F dX1_grows_32 ?_
    refine z_ieq (pc_lo (by omega) (by omega)) ?_
    refine z_ishl F dX1_grows_33 ?_
    refine z_ior F dX1_grows_34 ?_
    refine z_istore F dX1_grows_35 (Nat.le_of_ble_eq_true rfl) ?_
    refine z_leq (L' := [_, _, _, _, _, _, _]) rfl ?_
    refine z_iload F dX1_grows_37 rfl ?_
    refine z_iload F dX1_grows_39 rfl ?_
    refine z_iand F dX1_grows_41 ?_
    refine z_if_eq F (tgt := 47) dX1_grows_42 (by decide) (fun c_42 => ?_) (fun c_42 => ?_)
    · exact absurd ((b1_and (by omega) (by omega) (by omega) (by omega)).mp c_42) hap
    · refine z_iconstB F false dX1_grows_45 rfl ?_
      exact z_zret F E rfl rfl dX1_grows_46 (by omega) (by omega) (⟨rfl, rfl⟩)
  · exact absurd c_16 (nI_ne (by omega))
theorem c_mpull (F0 : Nat → Int32) (G : Nat → Int64) (A : Nat → Nat → Int32) (B : Nat → Nat → Int64) (n i a b : Nat) (hn : n < 24) (hi : i < 96) (h4 : F0 4 = nI (n + 1)) (ai : A 21 i = nI a) (bi : A 22 i = nI b) (ha : a < 24) (hb : b < 24) :
    zCtr yX6_pulls cX6_pulls 5 none 1 0 0 [zr 1 0, zi (nI i), zi (bI false)] [zH, zG F0 G A B] (fun r w => r = none ∧ w = [zH, zG F0 G (fA A 6 (gr1 (A 6) n a b)) B]) zNx := by
  refine z_start (by decide) [some (zr 1 0), some (zi (nI i)), some (zi (bI false)), none, none] rfl (fun _ => Nat.le_of_ble_eq_true rfl) (fun _ => rfl) (fun X F E hno hin => ?_)
  refine z_aload_n F dX6_pulls_0 rfl ?_
  refine z_ma F rfl 21 rfl (Nat.le_of_ble_eq_true rfl) rfl q1501 dX6_pulls_1 ?_
  refine z_iload_n F dX6_pulls_4 rfl ?_
  refine z_ialdGN F rfl rfl (Nat.le_of_ble_eq_true rfl) (by omega) rfl dX6_pulls_5 ?_
  refine z_ieq (ai) ?_
  refine z_istore_n F dX6_pulls_6 (Nat.le_of_ble_eq_true rfl) ?_
  refine z_leq (L' := [_, _, _, _, _]) rfl ?_
  refine z_aload_n F dX6_pulls_7 rfl ?_
  refine z_ma F rfl 22 rfl (Nat.le_of_ble_eq_true rfl) rfl q1502 dX6_pulls_8 ?_
  refine z_iload_n F dX6_pulls_11 rfl ?_
  refine z_ialdGN F rfl rfl (Nat.le_of_ble_eq_true rfl) (by omega) rfl dX6_pulls_12 ?_
  refine z_ieq (bi) ?_
  refine z_istore F dX6_pulls_13 (Nat.le_of_ble_eq_true rfl) ?_
  refine z_leq (L' := [_, _, _, _, _]) rfl ?_
  refine z_iload_n F dX6_pulls_15 rfl ?_
  refine z_if_eqB F (tgt := 50) dX6_pulls_16 (by decide) (fun c_16 => ?_) (fun c_16 => ?_)
  · refine z_aload_n F dX6_pulls_50 rfl ?_
    refine z_iload_n F dX6_pulls_51 rfl ?_
    refine z_iload F dX6_pulls_52 rfl ?_
    refine z_callV F (c_parts _ _ _ _ a b (by omega) (by omega)) 2 rfl (lw_V q1763 q1765 qs48 q117 q1766) (by decide +kernel) ⟨Nat.le_of_ble_eq_true rfl, Nat.le_of_ble_eq_true rfl⟩ ⟨by omega, by omega⟩ [0, 1] 2 ⟨rfl, rfl, rfl, ⟨Or.inl rfl, Or.inr rfl, trivial⟩⟩ (fun h => nomatch h) (Nat.le_of_ble_eq_true rfl) ⟨⟨Or.inr trivial, Or.inl rfl, trivial⟩, rfl, rfl, rfl, Nat.le_of_ble_eq_true rfl⟩ rfl zC6 (zat_G0 rfl) rfl dX6_pulls_54 (fun r_54 w_54 hp => ?_) (fun _ _ h => h.elim)
    obtain ⟨rfl, rfl⟩ := hp
    refine z_weq (w' := [zH, zG _ _ _ _]) rfl ?_
    refine z_seq (S' := []) rfl ?_
    refine z_aload_n F dX6_pulls_57 rfl ?_
    refine z_iload_n F dX6_pulls_58 rfl ?_
    refine z_aload_n F dX6_pulls_59 rfl ?_
    refine z_mi F rfl 4 rfl (Nat.le_of_ble_eq_true rfl) rfl q1484 dX6_pulls_60 ?_
    refine z_ieq (h4) ?_
    refine z_iconst F (nI 1) dX6_pulls_63 rfl ?_
    refine z_isubN F (by omega) dX6_pulls_64 ?_
    refine z_callV F (c_joins _ _ _ _ a (n + 1 - 1) (by omega) (by omega)) 2 rfl (lw_V q1755 q1757 qs47 q117 q1758) (by decide +kernel) ⟨Nat.le_of_ble_eq_true rfl, Nat.le_of_ble_eq_true rfl⟩ ⟨by omega, by omega⟩ [0, 1] 2 ⟨rfl, rfl, rfl, ⟨Or.inl rfl, Or.inr rfl, trivial⟩⟩ (fun h => nomatch h) (Nat.le_of_ble_eq_true rfl) ⟨⟨Or.inr trivial, Or.inl rfl, trivial⟩, rfl, rfl, rfl, Nat.le_of_ble_eq_true rfl⟩ rfl zC6 (zat_G0 rfl) rfl dX6_pulls_65 (fun r_65 w_65 hp => ?_) (fun _ _ h => h.elim)
    obtain ⟨rfl, rfl⟩ := hp
    rw [fA_at, fA_fA]
    refine z_weq (w' := [zH, zG _ _ _ _]) rfl ?_
    refine z_seq (S' := []) rfl ?_
    refine z_aload_n F dX6_pulls_68 rfl ?_
    refine z_iload F dX6_pulls_69 rfl ?_
    refine z_aload_n F dX6_pulls_71 rfl ?_
    refine z_mi F rfl 4 rfl (Nat.le_of_ble_eq_true rfl) rfl q1484 dX6_pulls_72 ?_
    refine z_ieq (h4) ?_
    refine z_iconst F (nI 1) dX6_pulls_75 rfl ?_
    refine z_isubN F (by omega) dX6_pulls_76 ?_
    refine z_callV F (c_joins _ _ _ _ b (n + 1 - 1) (by omega) (by omega)) 2 rfl (lw_V q1755 q1757 qs47 q117 q1758) (by decide +kernel) ⟨Nat.le_of_ble_eq_true rfl, Nat.le_of_ble_eq_true rfl⟩ ⟨by omega, by omega⟩ [0, 1] 2 ⟨rfl, rfl, rfl, ⟨Or.inl rfl, Or.inr rfl, trivial⟩⟩ (fun h => nomatch h) (Nat.le_of_ble_eq_true rfl) ⟨⟨Or.inr trivial, Or.inl rfl, trivial⟩, rfl, rfl, rfl, Nat.le_of_ble_eq_true rfl⟩ rfl zC6 (zat_G0 rfl) rfl dX6_pulls_77 (fun r_77 w_77 hp => ?_) (fun _ _ h => h.elim)
    obtain ⟨rfl, rfl⟩ := hp
    rw [fA_at, fA_fA]
    refine z_weq (w' := [zH, zG _ _ _ _]) rfl ?_
    refine z_seq (S' := []) rfl ?_
    exact z_vret F E rfl dX6_pulls_80 (by omega) (by omega) (⟨rfl, rfl⟩)
  · cases c_16
theorem c_mpullB (F0 : Nat → Int32) (G : Nat → Int64) (A : Nat → Nat → Int32) (B : Nat → Nat → Int64) (n i a b : Nat) (hn : n < 24) (hi : i < 96) (h4 : F0 4 = nI (n + 1)) (ai : A 21 i = nI a) (bi : A 22 i = nI b) (ha : a < 24) (hb : b < 24) :
    zCtr yX6_pulls cX6_pulls 5 none 1 0 0 [zr 1 0, zi (nI i), zi (bI true)] [zH, zG F0 G A B] (fun r w => r = none ∧ w = [zH, zG F0 G (fA A 6 (bk1 (A 6) n a b)) B]) zNx := by
  refine z_start (by decide) [some (zr 1 0), some (zi (nI i)), some (zi (bI true)), none, none] rfl (fun _ => Nat.le_of_ble_eq_true rfl) (fun _ => rfl) (fun X F E hno hin => ?_)
  refine z_aload_n F dX6_pulls_0 rfl ?_
  refine z_ma F rfl 21 rfl (Nat.le_of_ble_eq_true rfl) rfl q1501 dX6_pulls_1 ?_
  refine z_iload_n F dX6_pulls_4 rfl ?_
  refine z_ialdGN F rfl rfl (Nat.le_of_ble_eq_true rfl) (by omega) rfl dX6_pulls_5 ?_
  refine z_ieq (ai) ?_
  refine z_istore_n F dX6_pulls_6 (Nat.le_of_ble_eq_true rfl) ?_
  refine z_leq (L' := [_, _, _, _, _]) rfl ?_
  refine z_aload_n F dX6_pulls_7 rfl ?_
  refine z_ma F rfl 22 rfl (Nat.le_of_ble_eq_true rfl) rfl q1502 dX6_pulls_8 ?_
  refine z_iload_n F dX6_pulls_11 rfl ?_
  refine z_ialdGN F rfl rfl (Nat.le_of_ble_eq_true rfl) (by omega) rfl dX6_pulls_12 ?_
  refine z_ieq (bi) ?_
  refine z_istore F dX6_pulls_13 (Nat.le_of_ble_eq_true rfl) ?_
  refine z_leq (L' := [_, _, _, _, _]) rfl ?_
  refine z_iload_n F dX6_pulls_15 rfl ?_
  refine z_if_eqB F (tgt := 50) dX6_pulls_16 (by decide) (fun c_16 => ?_) (fun c_16 => ?_)
  · cases c_16
  · refine z_aload_n F dX6_pulls_19 rfl ?_
    refine z_iload_n F dX6_pulls_20 rfl ?_
    refine z_iload F dX6_pulls_21 rfl ?_
    refine z_callV F (c_joins _ _ _ _ a b (by omega) (by omega)) 2 rfl (lw_V q1755 q1757 qs47 q117 q1758) (by decide +kernel) ⟨Nat.le_of_ble_eq_true rfl, Nat.le_of_ble_eq_true rfl⟩ ⟨by omega, by omega⟩ [0, 1] 2 ⟨rfl, rfl, rfl, ⟨Or.inl rfl, Or.inr rfl, trivial⟩⟩ (fun h => nomatch h) (Nat.le_of_ble_eq_true rfl) ⟨⟨Or.inr trivial, Or.inl rfl, trivial⟩, rfl, rfl, rfl, Nat.le_of_ble_eq_true rfl⟩ rfl zC6 (zat_G0 rfl) rfl dX6_pulls_23 (fun r_23 w_23 hp => ?_) (fun _ _ h => h.elim)
    obtain ⟨rfl, rfl⟩ := hp
    refine z_weq (w' := [zH, zG _ _ _ _]) rfl ?_
    refine z_seq (S' := []) rfl ?_
    refine z_aload_n F dX6_pulls_26 rfl ?_
    refine z_iload_n F dX6_pulls_27 rfl ?_
    refine z_aload_n F dX6_pulls_28 rfl ?_
    refine z_mi F rfl 4 rfl (Nat.le_of_ble_eq_true rfl) rfl q1484 dX6_pulls_29 ?_
    refine z_ieq (h4) ?_
    refine z_iconst F (nI 1) dX6_pulls_32 rfl ?_
    refine z_isubN F (by omega) dX6_pulls_33 ?_
    refine z_callV F (c_parts _ _ _ _ a (n + 1 - 1) (by omega) (by omega)) 2 rfl (lw_V q1763 q1765 qs48 q117 q1766) (by decide +kernel) ⟨Nat.le_of_ble_eq_true rfl, Nat.le_of_ble_eq_true rfl⟩ ⟨by omega, by omega⟩ [0, 1] 2 ⟨rfl, rfl, rfl, ⟨Or.inl rfl, Or.inr rfl, trivial⟩⟩ (fun h => nomatch h) (Nat.le_of_ble_eq_true rfl) ⟨⟨Or.inr trivial, Or.inl rfl, trivial⟩, rfl, rfl, rfl, Nat.le_of_ble_eq_true rfl⟩ rfl zC6 (zat_G0 rfl) rfl dX6_pulls_34 (fun r_34 w_34 hp => ?_) (fun _ _ h => h.elim)
    obtain ⟨rfl, rfl⟩ := hp
    rw [fA_at, fA_fA]
    refine z_weq (w' := [zH, zG _ _ _ _]) rfl ?_
    refine z_seq (S' := []) rfl ?_
    refine z_aload_n F dX6_pulls_37 rfl ?_
    refine z_iload F dX6_pulls_38 rfl ?_
    refine z_aload_n F dX6_pulls_40 rfl ?_
    refine z_mi F rfl 4 rfl (Nat.le_of_ble_eq_true rfl) rfl q1484 dX6_pulls_41 ?_
    refine z_ieq (h4) ?_
    refine z_iconst F (nI 1) dX6_pulls_44 rfl ?_
    refine z_isubN F (by omega) dX6_pulls_45 ?_
    refine z_callV F (c_parts _ _ _ _ b (n + 1 - 1) (by omega) (by omega)) 2 rfl (lw_V q1763 q1765 qs48 q117 q1766) (by decide +kernel) ⟨Nat.le_of_ble_eq_true rfl, Nat.le_of_ble_eq_true rfl⟩ ⟨by omega, by omega⟩ [0, 1] 2 ⟨rfl, rfl, rfl, ⟨Or.inl rfl, Or.inr rfl, trivial⟩⟩ (fun h => nomatch h) (Nat.le_of_ble_eq_true rfl) ⟨⟨Or.inr trivial, Or.inl rfl, trivial⟩, rfl, rfl, rfl, Nat.le_of_ble_eq_true rfl⟩ rfl zC6 (zat_G0 rfl) rfl dX6_pulls_46 (fun r_46 w_46 hp => ?_) (fun _ _ h => h.elim)
    obtain ⟨rfl, rfl⟩ := hp
    rw [fA_at, fA_fA]
    refine z_weq (w' := [zH, zG _ _ _ _]) rfl ?_
    refine z_seq (S' := []) rfl ?_
    exact z_vret F E rfl dX6_pulls_49 (by omega) (by omega) (⟨rfl, rfl⟩)
theorem c_mapr (F0 : Nat → Int32) (G : Nat → Int64) (A : Nat → Nat → Int32) (B : Nat → Nat → Int64) (l : List (Nat × Nat)) (i j : Nat) (hi : i < 96) (hj : j < 96) (ei : A 21 i = nI (la l i) ∧ A 22 i = nI (lb l i)) (ej : A 21 j = nI (la l j) ∧ A 22 j = nI (lb l j)) (b1' : la l i < 24) (b2 : lb l i < 24) (b3 : la l j < 24) (b4 : lb l j < 24) :
    zCtr yX6_areApart cX6_areApart 3 (some .boolean) 0 0 0 [zr 1 0, zi (nI i), zi (nI j)] [zH, zG F0 G A B] (fun r w => r = some (zi (bI (apr l i j))) ∧ w = [zH, zG F0 G A B]) zNx := by
  refine z_start (by decide) [some (zr 1 0), some (zi (nI i)), some (zi (nI j))] rfl (fun _ => Nat.le_of_ble_eq_true rfl) (fun _ => rfl) (fun X F E hno hin => ?_)
  refine z_aload_n F dX6_areApart_0 rfl ?_
  refine z_ma F rfl 21 rfl (Nat.le_of_ble_eq_true rfl) rfl q1501 dX6_areApart_1 ?_
  refine z_iload_n F dX6_areApart_4 rfl ?_
  refine z_ialdGN F rfl rfl (Nat.le_of_ble_eq_true rfl) (by omega) rfl dX6_areApart_5 ?_
  refine z_ieq (ei.1) ?_
  refine z_aload_n F dX6_areApart_6 rfl ?_
  refine z_ma F rfl 21 rfl (Nat.le_of_ble_eq_true rfl) rfl q1501 dX6_areApart_7 ?_
  refine z_iload_n F dX6_areApart_10 rfl ?_
  refine z_ialdGN F rfl rfl (Nat.le_of_ble_eq_true rfl) (by omega) rfl dX6_areApart_11 ?_
  refine z_ieq (ej.1) ?_
  refine z_icmp_eqN F (by omega) (by omega) (tgt := 64) dX6_areApart_12 (by decide) (fun c_12 => ?_) (fun c_12 => ?_)
  · have hk : apr l i j = false := by
      unfold apr
      first | (simp [c_12]; done) | (simp [c_27]; done) | (simp [c_42]; done) | (simp [c_57]; done)
    refine z_iconstB F false dX6_areApart_64 rfl ?_
    exact z_zret F E rfl rfl dX6_areApart_65 (by omega) (by omega) (⟨by rw [hk], rfl⟩)
  · refine z_aload_n F dX6_areApart_15 rfl ?_
    refine z_ma F rfl 21 rfl (Nat.le_of_ble_eq_true rfl) rfl q1501 dX6_areApart_16 ?_
    refine z_iload_n F dX6_areApart_19 rfl ?_
    refine z_ialdGN F rfl rfl (Nat.le_of_ble_eq_true rfl) (by omega) rfl dX6_areApart_20 ?_
    refine z_ieq (ei.1) ?_
    refine z_aload_n F dX6_areApart_21 rfl ?_
    refine z_ma F rfl 22 rfl (Nat.le_of_ble_eq_true rfl) rfl q1502 dX6_areApart_22 ?_
    refine z_iload_n F dX6_areApart_25 rfl ?_
    refine z_ialdGN F rfl rfl (Nat.le_of_ble_eq_true rfl) (by omega) rfl dX6_areApart_26 ?_
    refine z_ieq (ej.2) ?_
    refine z_icmp_eqN F (by omega) (by omega) (tgt := 64) dX6_areApart_27 (by decide) (fun c_27 => ?_) (fun c_27 => ?_)
    · have hk : apr l i j = false := by
        unfold apr
        first | (simp [c_12]; done) | (simp [c_27]; done) | (simp [c_42]; done) | (simp [c_57]; done)
      refine z_iconstB F false dX6_areApart_64 rfl ?_
      exact z_zret F E rfl rfl dX6_areApart_65 (by omega) (by omega) (⟨by rw [hk], rfl⟩)
    · refine z_aload_n F dX6_areApart_30 rfl ?_
      refine z_ma F rfl 22 rfl (Nat.le_of_ble_eq_true rfl) rfl q1502 dX6_areApart_31 ?_
      refine z_iload_n F dX6_areApart_34 rfl ?_
      refine z_ialdGN F rfl rfl (Nat.le_of_ble_eq_true rfl) (by omega) rfl dX6_areApart_35 ?_
      refine z_ieq (ei.2) ?_
      refine z_aload_n F dX6_areApart_36 rfl ?_
      refine z_ma F rfl 21 rfl (Nat.le_of_ble_eq_true rfl) rfl q1501 dX6_areApart_37 ?_
      refine z_iload_n F dX6_areApart_40 rfl ?_
      refine z_ialdGN F rfl rfl (Nat.le_of_ble_eq_true rfl) (by omega) rfl dX6_areApart_41 ?_
      refine z_ieq (ej.1) ?_
      refine z_icmp_eqN F (by omega) (by omega) (tgt := 64) dX6_areApart_42 (by decide) (fun c_42 => ?_) (fun c_42 => ?_)
      · have hk : apr l i j = false := by
          unfold apr
          first | (simp [c_12]; done) | (simp [c_27]; done) | (simp [c_42]; done) | (simp [c_57]; done)
        refine z_iconstB F false dX6_areApart_64 rfl ?_
        exact z_zret F E rfl rfl dX6_areApart_65 (by omega) (by omega) (⟨by rw [hk], rfl⟩)
      · refine z_aload_n F dX6_areApart_45 rfl ?_
        refine z_ma F rfl 22 rfl (Nat.le_of_ble_eq_true rfl) rfl q1502 dX6_areApart_46 ?_
        refine z_iload_n F dX6_areApart_49 rfl ?_
        refine z_ialdGN F rfl rfl (Nat.le_of_ble_eq_true rfl) (by omega) rfl dX6_areApart_50 ?_
        refine z_ieq (ei.2) ?_
        refine z_aload_n F dX6_areApart_51 rfl ?_
        refine z_ma F rfl 22 rfl (Nat.le_of_ble_eq_true rfl) rfl q1502 dX6_areApart_52 ?_
        refine z_iload_n F dX6_areApart_55 rfl ?_
        refine z_ialdGN F rfl rfl (Nat.le_of_ble_eq_true rfl) (by omega) rfl dX6_areApart_56 ?_
        refine z_ieq (ej.2) ?_
        refine z_icmp_eqN F (by omega) (by omega) (tgt := 64) dX6_areApart_57 (by decide) (fun c_57 => ?_) (fun c_57 => ?_)
        · have hk : apr l i j = false := by
            unfold apr
            first | (simp [c_12]; done) | (simp [c_27]; done) | (simp [c_42]; done) | (simp [c_57]; done)
          refine z_iconstB F false dX6_areApart_64 rfl ?_
          exact z_zret F E rfl rfl dX6_areApart_65 (by omega) (by omega) (⟨by rw [hk], rfl⟩)
        · have hk : apr l i j = true := by
            unfold apr
            simp [c_12, c_27, c_42, c_57]
          refine z_iconstB F true dX6_areApart_60 rfl ?_
          refine z_goto F (tgt := 65) dX6_areApart_61 (by decide) ?_
          exact z_zret F E rfl rfl dX6_areApart_65 (by omega) (by omega) (⟨by rw [hk], rfl⟩)
end C64
