/-! matchings: the reference spreads from a sender -/
section C9yc
abbrev bqS (last : Nat) (W : Nat → Nat) (seen : Int32) : Prop := ∀ t, t < 24 → (bt seen t = true ↔ ∃ i, i < last ∧ W i = t)
abbrev bqA (A : Nat → Nat → Int32) (last : Nat) (W Tr : Nat → Nat) : Prop := ∀ i, i < last → A 71 i = nI (W i) ∧ A 70 (W i) = nI (Tr (W i))
def wPut (W : Nat → Nat) (k u : Nat) : Nat → Nat := fun i => if i = k then u else W i
theorem wPut_at {W : Nat → Nat} {k u : Nat} : wPut W k u k = u := if_pos rfl
theorem wPut_ne {W : Nat → Nat} {k u i : Nat} (h : i ≠ k) : wPut W k u i = W i := if_neg h
theorem bq_push {g : Nat → Nat → Bool} {O : Nat → Option Nat} {x last u z : Nat} {W Tr : Nat → Nat} {seen : Int32} {A : Nat → Nat → Int32} (h : bqQ g O x last W Tr) (hs : bqS last W seen) (hA : bqA A last W Tr) (hu : u < 24) (hn : bt seen u = false) (hg : g z u = true) (hz : z = x ∨ ∃ i', i' < last ∧ O (W i') = some z) :
    last < 24 ∧ bqQ g O x (last + 1) (wPut W last u) (wPut Tr u z) ∧ bqS (last + 1) (wPut W last u) (seen ||| b1 u) ∧ bqA (zup2 (zup2 A 71 last (nI u)) 70 u (nI z)) (last + 1) (wPut W last u) (wPut Tr u z) := by
  have hne : ∀ i, i < last → W i ≠ u := fun i hi e => by
    rw [(hs u hu).mpr ⟨i, hi, e⟩] at hn; cases hn
  have q : bqQ g O x (last + 1) (wPut W last u) (wPut Tr u z) := by
    refine ⟨fun i hi => ?_, fun i j hi hj e => ?_⟩
    · by_cases e : i = last
      · rw [e, wPut_at, wPut_at]
        refine ⟨hu, hg, hz.elim Or.inl (fun ⟨i', a, b⟩ => Or.inr ⟨i', a, ?_⟩)⟩
        rw [wPut_ne (by omega)]; exact b
      · rw [wPut_ne e, wPut_ne (hne i (by omega))]
        obtain ⟨a, b, c⟩ := h.1 i (by omega)
        refine ⟨a, b, c.elim Or.inl (fun ⟨i', a, b⟩ => Or.inr ⟨i', a, ?_⟩)⟩
        rw [wPut_ne (by omega)]; exact b
    · by_cases e1 : i = last
      · by_cases e2 : j = last
        · omega
        · rw [e1, wPut_at, wPut_ne e2] at e; exact absurd e.symm (hne j (by omega))
      · by_cases e2 : j = last
        · rw [e2, wPut_at, wPut_ne e1] at e; exact absurd e (hne i (by omega))
        · rw [wPut_ne e1, wPut_ne e2] at e; exact h.2 i j (by omega) (by omega) e
  have hl := fb_holes 24 (last + 1) (wPut W last u) (fun i hi => (q.1 i hi).1) (fun i j hij hj e => by have := q.2 i j (by omega) hj e; omega)
  refine ⟨by omega, q, fun t ht => ?_, fun i hi => ?_⟩
  · rw [bt_or1 _ (by omega), Bool.or_eq_true, decide_eq_true_eq, hs t ht]
    constructor
    · rintro (⟨i, hi, e⟩ | e)
      · exact ⟨i, by omega, by rw [wPut_ne (by omega)]; exact e⟩
      · exact ⟨last, by omega, by rw [wPut_at]; exact e.symm⟩
    · rintro ⟨i, hi, e⟩
      by_cases e2 : i = last
      · rw [e2, wPut_at] at e; exact Or.inr e.symm
      · rw [wPut_ne e2] at e; exact Or.inl ⟨i, by omega, e⟩
  · by_cases e : i = last
    · rw [e, wPut_at, wPut_at]
      exact ⟨by rw [zup2_ne (by decide), zup2_row]; exact if_pos rfl, by rw [zup2_row]; exact if_pos rfl⟩
    · rw [wPut_ne e, wPut_ne (hne i (by omega))]
      obtain ⟨a, b⟩ := hA i (by omega)
      exact ⟨by rw [zup2_ne (by decide), zup2_row]; exact (if_neg e).trans a, by rw [zup2_row]; exact (if_neg (hne i (by omega))).trans (by rw [zup2_ne (by decide)]; exact b)⟩
theorem bq_le {g : Nat → Nat → Bool} {O : Nat → Option Nat} {x last : Nat} {W Tr : Nat → Nat} (q : bqQ g O x last W Tr) : last ≤ 24 := fb_holes 24 last W (fun i hi => (q.1 i hi).1) (fun i j hij hj e => by have := q.2 i j (by omega) hj e; omega)
abbrev imP (F0 : Nat → Int32) (G : Nat → Int64) (A : Nat → Nat → Int32) (B : Nat → Nat → Int64) (g : Nat → Nat → Bool) (S : Nat → Prop) (x : Nat) : Option zV → List zE → Prop := fun r w => ∃ b A', r = some (zi (bI b)) ∧ w = [zH, zG F0 G A' B] ∧ frm [69, 70, 71] A A' ∧ (b = false → A' 69 = A 69 ∧ ¬ mA g (fun z => S z ∨ z = x)) ∧ (b = true → ∃ O', mS g (fun z => S z ∨ z = x) O' ∧ ∀ t, t < 24 → A' 69 t = dI (O' t))
theorem c_misM (F0 : Nat → Int32) (G : Nat → Int64) (A : Nat → Nat → Int32) (B : Nat → Nat → Int64) (g : Nat → Nat → Bool) (S : Nat → Prop) (O : Nat → Option Nat) (n x sn : Nat) (hn : n ≤ 24) (hxn : x < n) (hSn : ∀ z, S z → z < n) (hM : mS g S O) (hx : ¬ S x) (hO : ∀ t, t < 24 → A 69 t = dI (O t)) (hG : ∀ z t, z < n → t < 24 → bt (A 68 z) t = g z t) :
    zCtr yX6_isMatched cX6_isMatched 9 (some .boolean) 1 0 0 [zr 1 0, zi (nI x), zi (nI sn)] [zH, zG F0 G A B] (imP F0 G A B g S x) zNx := by
  refine z_start (by decide) [some (zr 1 0), some (zi (nI x)), some (zi (nI sn)), none, none, none, none, none, none] rfl (fun _ => Nat.le_of_ble_eq_true rfl) (fun _ => rfl) (fun X F E hno hin => ?_)
  have two : ∀ (m i last : Nat) (W Tr : Nat → Nat) (seen : Int32) (A1 : Nat → Nat → Int32), 24 - i < m → i ≤ last → frm [70, 71] A A1 → bqQ g O x last W Tr → bqS last W seen → bqA A1 last W Tr → (∀ u, u < 24 → g x u = true → bt seen u = true) → (∀ i', i' < i → ∃ z, O (W i') = some z ∧ ∀ u, u < 24 → g z u = true → bt seen u = true) → Z X [some (zr 1 0), some (zi (nI x)), some (zi (nI sn)), some (zi seen), some (zi (nI last)), some (zi (nI i)), none, none, none] [] [zH, zG F0 G A1 B] 0 0 68 := by
    intro m
    induction m with
    | zero => intro i last W Tr seen A1 hm hi hA hq; have := bq_le hq; omega
    | succ m ih =>
      intro i last W Tr seen A1 hm hi hA hq hs hqA hgx hcl
      have hl := bq_le hq
      have w0 := fun z => hq.1 i z
      have a0 := fun z => (hqA i z).1
      have hO1 : ∀ t, t < 24 → A1 69 t = dI (O t) := fun t ht => by rw [hA.at 69 rfl]; exact hO t ht
      have at84 : i < last → Z X [some (zr 1 0), some (zi (nI x)), some (zi (nI sn)), some (zi seen), some (zi (nI last)), some (zi (nI i)), some (zi (nI (W i))), none, none] [] [zH, zG F0 G A1 B] 0 0 84 := by
        intro hil
        obtain ⟨w1, w2, -⟩ := w0 hil
        have hmi : 24 - (i + 1) < m := by omega
        have t1 := hO1 (W i) w1
        rcases ho : O (W i) with _ | z
        ·
          rw [ho] at t1
          refine z_aload_n F dX6_isMatched_84 rfl ?_
          refine z_ma F rfl 69 rfl (Nat.le_of_ble_eq_true rfl) rfl q1549 dX6_isMatched_85 ?_
          refine z_iload F dX6_isMatched_88 rfl ?_
          refine z_ialdGN F rfl rfl (Nat.le_of_ble_eq_true rfl) (by omega) rfl dX6_isMatched_90 ?_
          refine z_ieq (t1) ?_
          refine z_iconst F (-1) dX6_isMatched_91 rfl ?_
          refine z_icmp_ne F (tgt := 104) dX6_isMatched_92 (by decide) (fun c_92 => ?_) (fun c_92 => ?_)
          · exact absurd rfl c_92
          · refine z_aload_n F dX6_isMatched_95 rfl ?_
            refine z_iload F dX6_isMatched_96 rfl ?_
            refine z_iload_n F dX6_isMatched_98 rfl ?_
            refine z_callV F (c_mgives F0 G A1 B g S O x last i W Tr hM hx (by omega) hO1 hq (fun k hk => (hqA k hk).2) hil ho) 2 rfl (lw_V q2119 q2121 qs101 q117 q2122) (by decide +kernel) ⟨Nat.le_of_ble_eq_true rfl, Nat.le_of_ble_eq_true rfl⟩ ⟨by omega, by omega⟩ [0, 1] 2 ⟨rfl, rfl, rfl, ⟨Or.inl rfl, Or.inr rfl, trivial⟩⟩ (fun h => nomatch h) (Nat.le_of_ble_eq_true rfl) ⟨⟨Or.inr trivial, Or.inl rfl, trivial⟩, rfl, rfl, rfl, Nat.le_of_ble_eq_true rfl⟩ rfl zC6 (zat_G0 rfl) rfl dX6_isMatched_99 (fun r_99 w_99 hp => ?_) (fun _ _ h => h.elim)
            obtain ⟨rfl, A2, O', rfl, k1, k2, k3⟩ := hp
            refine z_weq (w' := [zH, zG _ _ _ _]) rfl ?_
            refine z_seq (S' := []) rfl ?_
            refine z_iconst F (nI 1) dX6_isMatched_102 rfl ?_
            exact z_zret F E rfl rfl dX6_isMatched_103 (by omega) (by omega) (⟨true, A2, rfl, rfl, hA.tr k1 (by decide) (by decide), fun e => (by cases e), fun _ => ⟨O', k2, k3⟩⟩)
        rw [ho] at t1
        have hSz := (hM.1 _ _ ho).2.2
        have hzn := hSn z hSz
        have inn : ∀ (m2 u last : Nat) (W2 Tr2 : Nat → Nat) (seen2 : Int32) (A2 : Nat → Nat → Int32), 24 - u < m2 → u ≤ 24 → i < last → W2 i = W i → frm [70, 71] A A2 → bqQ g O x last W2 Tr2 → bqS last W2 seen2 → bqA A2 last W2 Tr2 → (∀ u, u < 24 → g x u = true → bt seen2 u = true) → (∀ i', i' < i → ∃ z, O (W2 i') = some z ∧ ∀ u, u < 24 → g z u = true → bt seen2 u = true) → (∀ v, v < u → g z v = true → bt seen2 v = true) → Z X [some (zr 1 0), some (zi (nI x)), some (zi (nI sn)), some (zi seen2), some (zi (nI last)), some (zi (nI i)), none, some (zi (nI z)), some (zi (nI u))] [] [zH, zG F0 G A2 B] 0 0 116 := by
          intro m2
          induction m2 with
          | zero => intro u last W2 Tr2 seen2 A2 hm2; omega
          | succ m2 ih2 =>
            intro u last W2 Tr2 seen2 A2 hm2 hu hil2 hWi hA2 hq2 hs2 hqA2 hgx2 hcl2 hz2
            have hl2 := bq_le hq2
            have hg1 := fun q => hG z u hzn q
            rw [← hA2.at 68 rfl] at hg1
            have hpush := fun (hu4 : u < 24) (hsn : bt seen2 u = false) (hgz : g z u = true) => bq_push hq2 hs2 hqA2 hu4 hsn hgz (Or.inr ⟨i, hil2, by rw [hWi]; exact ho⟩)
            refine z_iload F dX6_isMatched_116 rfl ?_
            refine z_bipush F (nI 24) dX6_isMatched_118 rfl ?_
            refine z_icmp_geN F (by omega) (by omega) (tgt := 185) dX6_isMatched_120 (by decide) (fun c_120 => ?_) (fun c_120 => ?_)
            · refine z_iincN F 1 dX6_isMatched_185 rfl rfl ?_
              refine z_leq (L' := [_, _, _, _, _, _, _, _, _]) rfl ?_
              refine z_goto F (tgt := 68) dX6_isMatched_188 (by decide) ?_
              refine z_loc _ ?_ (ih (i + 1) last W2 Tr2 seen2 A2 hmi hil2 hA2 hq2 hs2 hqA2 hgx2 (fun i' hi' => ?_))
              · exact ⟨rfl, rfl, rfl, rfl, rfl, rfl, trivial⟩
              by_cases e : i' = i
              · rw [e, hWi]; exact ⟨z, ho, fun u hu => hz2 u (by omega)⟩
              · exact hcl2 i' (by omega)
            · have hg1 := hg1 (by omega)
              refine z_aload_n F dX6_isMatched_123 rfl ?_
              refine z_ma F rfl 68 rfl (Nat.le_of_ble_eq_true rfl) rfl q1548 dX6_isMatched_124 ?_
              refine z_iload F dX6_isMatched_127 rfl ?_
              refine z_ialdGN F rfl rfl (Nat.le_of_ble_eq_true rfl) (by omega) rfl dX6_isMatched_129 ?_
              refine z_iload F dX6_isMatched_130 rfl ?_
              refine z_ishr F dX6_isMatched_132 ?_
              refine z_iconst F (nI 1) dX6_isMatched_133 rfl ?_
              refine z_iandB F (by omega) dX6_isMatched_134 ?_
              refine z_if_eqB F (tgt := 179) dX6_isMatched_135 (by decide) (fun c_135 => ?_) (fun c_135 => ?_)
              · refine z_iincN F 1 dX6_isMatched_179 rfl rfl ?_
                refine z_leq (L' := [_, _, _, _, _, _, _, _, _]) rfl ?_
                refine z_goto F (tgt := 116) dX6_isMatched_182 (by decide) ?_
                exact ih2 (u + 1) last W2 Tr2 seen2 A2 (by omega) (by omega) hil2 hWi hA2 hq2 hs2 hqA2 hgx2 hcl2 (fun v hv hgv => by
                  by_cases e : v = u
                  · rw [e, ← hg1, c_135] at hgv; cases hgv
                  · exact hz2 v (by omega) hgv)
              · refine z_iload_n F dX6_isMatched_138 rfl ?_
                refine z_iload F dX6_isMatched_139 rfl ?_
                refine z_ishr F dX6_isMatched_141 ?_
                refine z_iconst F (nI 1) dX6_isMatched_142 rfl ?_
                refine z_iandB F (by omega) dX6_isMatched_143 ?_
                refine z_iconst F (nI 1) dX6_isMatched_144 rfl ?_
                refine z_icmp_neB F (tgt := 151) dX6_isMatched_145 (by decide) (fun c_145 => ?_) (fun c_145 => ?_)
                · obtain ⟨p1, p2, p3, p4⟩ := hpush (by omega) c_145 (by rw [← hg1]; exact c_135)
                  have hup : ∀ v, bt seen2 v = true → bt (seen2 ||| b1 u) v = true := fun v hv => by
                    rw [bt_or1 _ (by omega), hv]; rfl
                  refine z_aload_n F dX6_isMatched_151 rfl ?_
                  refine z_ma F rfl 71 rfl (Nat.le_of_ble_eq_true rfl) rfl q1551 dX6_isMatched_152 ?_
                  refine z_iload F dX6_isMatched_155 rfl ?_
                  refine z_iload F dX6_isMatched_157 rfl ?_
                  refine z_iastGN F rfl rfl (Nat.le_of_ble_eq_true rfl) (by omega) dX6_isMatched_159 ?_
                  refine z_weq (w' := [_, _]) rfl ?_
                  refine z_iincN F 1 dX6_isMatched_160 rfl rfl ?_
                  refine z_leq (L' := [_, _, _, _, _, _, _, _, _]) rfl ?_
                  refine z_iload_n F dX6_isMatched_163 rfl ?_
                  refine z_iconst F (nI 1) dX6_isMatched_164 rfl ?_
                  refine z_iload F dX6_isMatched_165 rfl ?_
                  refine z_ishlB F dX6_isMatched_167 ?_
                  refine z_ior F dX6_isMatched_168 ?_
                  refine z_istore_n F dX6_isMatched_169 (Nat.le_of_ble_eq_true rfl) ?_
                  refine z_leq (L' := [_, _, _, _, _, _, _, _, _]) rfl ?_
                  refine z_aload_n F dX6_isMatched_170 rfl ?_
                  refine z_ma F rfl 70 rfl (Nat.le_of_ble_eq_true rfl) rfl q1550 dX6_isMatched_171 ?_
                  refine z_iload F dX6_isMatched_174 rfl ?_
                  refine z_iload F dX6_isMatched_176 rfl ?_
                  refine z_iastGN F rfl rfl (Nat.le_of_ble_eq_true rfl) (by omega) dX6_isMatched_178 ?_
                  refine z_weq (w' := [_, _]) rfl ?_
                  refine z_iincN F 1 dX6_isMatched_179 rfl rfl ?_
                  refine z_leq (L' := [_, _, _, _, _, _, _, _, _]) rfl ?_
                  refine z_goto F (tgt := 116) dX6_isMatched_182 (by decide) ?_
                  refine ih2 (u + 1) (last + 1) _ _ (seen2 ||| b1 u) _ (by omega) (by omega) (by omega) (by rw [wPut_ne (by omega)]; exact hWi) (frm_zup (frm_zup hA2 (by decide)) (by decide)) p2 p3 p4 (fun v hv hgv => hup v (hgx2 v hv hgv)) (fun i' hi' => ?_) (fun v hv hgv => ?_)
                  · rw [wPut_ne (by omega)]
                    obtain ⟨y, y1, y2⟩ := hcl2 i' hi'
                    exact ⟨y, y1, fun v hv hgv => hup v (y2 v hv hgv)⟩
                  · by_cases e : v = u
                    · rw [e, bt_or1 _ (by omega), decide_eq_true rfl, Bool.or_true]
                    · exact hup v (hz2 v (by omega) hgv)
                · refine z_goto F (tgt := 179) dX6_isMatched_148 (by decide) ?_
                  refine z_iincN F 1 dX6_isMatched_179 rfl rfl ?_
                  refine z_leq (L' := [_, _, _, _, _, _, _, _, _]) rfl ?_
                  refine z_goto F (tgt := 116) dX6_isMatched_182 (by decide) ?_
                  exact ih2 (u + 1) last W2 Tr2 seen2 A2 (by omega) (by omega) hil2 hWi hA2 hq2 hs2 hqA2 hgx2 hcl2 (fun v hv hgv => by
                    by_cases e : v = u
                    · rw [e]; exact c_145
                    · exact hz2 v (by omega) hgv)
        refine z_aload_n F dX6_isMatched_84 rfl ?_
        refine z_ma F rfl 69 rfl (Nat.le_of_ble_eq_true rfl) rfl q1549 dX6_isMatched_85 ?_
        refine z_iload F dX6_isMatched_88 rfl ?_
        refine z_ialdGN F rfl rfl (Nat.le_of_ble_eq_true rfl) (by omega) rfl dX6_isMatched_90 ?_
        refine z_ieq (t1) ?_
        refine z_iconst F (-1) dX6_isMatched_91 rfl ?_
        refine z_icmp_ne F (tgt := 104) dX6_isMatched_92 (by decide) (fun c_92 => ?_) (fun c_92 => ?_)
        · refine z_aload_n F dX6_isMatched_104 rfl ?_
          refine z_ma F rfl 69 rfl (Nat.le_of_ble_eq_true rfl) rfl q1549 dX6_isMatched_105 ?_
          refine z_iload F dX6_isMatched_108 rfl ?_
          refine z_ialdGN F rfl rfl (Nat.le_of_ble_eq_true rfl) (by omega) rfl dX6_isMatched_110 ?_
          refine z_ieq (t1) ?_
          refine z_istore F dX6_isMatched_111 (Nat.le_of_ble_eq_true rfl) ?_
          refine z_leq (L' := [_, _, _, _, _, _, _, _, _]) rfl ?_
          refine z_iconst F (nI 0) dX6_isMatched_113 rfl ?_
          refine z_istore F dX6_isMatched_114 (Nat.le_of_ble_eq_true rfl) ?_
          refine z_leq (L' := [_, _, _, _, _, _, _, _, _]) rfl ?_
          refine z_loc _ ?_ (inn 25 0 last W Tr seen A1 (by omega) (by omega) hil rfl hA hq hs hqA hgx hcl (fun v hv => absurd hv (by omega)))
          exact ⟨rfl, rfl, rfl, rfl, rfl, rfl, rfl, rfl, trivial⟩
        · exact absurd c_92 (nI_ne (show z < 2 ^ 31 by omega))
      refine z_iload F dX6_isMatched_68 rfl ?_
      refine z_iload F dX6_isMatched_70 rfl ?_
      refine z_icmp_geN F (by omega) (by omega) (tgt := 191) dX6_isMatched_72 (by decide) (fun c_72 => ?_) (fun c_72 => ?_)
      · refine z_iconst F (nI 0) dX6_isMatched_191 rfl ?_
        exact z_zret F E rfl rfl dX6_isMatched_192 (by omega) (by omega) (⟨false, A1, rfl, rfl, hA.to (by decide), fun _ => ⟨hA.at 69 rfl, hall hM hx (by omega) (R := fun t => ∃ i', i' < last ∧ W i' = t) ⟨fun t ht hg => (hs t ht).mp (hgx t ht hg), fun t ⟨i', h1, h2⟩ => by
  obtain ⟨z, z1, z2⟩ := hcl i' (by omega)
  exact ⟨z, by rw [← h2]; exact z1, fun u hu hgu => (hs u hu).mp (z2 u hu hgu)⟩⟩⟩, fun e => by cases e⟩)
      · refine z_aload_n F dX6_isMatched_75 rfl ?_
        refine z_ma F rfl 71 rfl (Nat.le_of_ble_eq_true rfl) rfl q1551 dX6_isMatched_76 ?_
        refine z_iload F dX6_isMatched_79 rfl ?_
        refine z_ialdGN F rfl rfl (Nat.le_of_ble_eq_true rfl) (by omega) rfl dX6_isMatched_81 ?_
        refine z_ieq (a0 (by omega)) ?_
        refine z_istore F dX6_isMatched_82 (Nat.le_of_ble_eq_true rfl) ?_
        refine z_leq (L' := [_, _, _, _, _, _, _, _, _]) rfl ?_
        exact at84 (by omega)
  have one : ∀ (m y last : Nat) (W Tr : Nat → Nat) (seen : Int32) (A1 : Nat → Nat → Int32), 24 - y < m → y ≤ 24 → frm [70, 71] A A1 → bqQ g O x last W Tr → bqS last W seen → bqA A1 last W Tr → (∀ i, i < last → W i < y) → (∀ u, u < y → g x u = true → bt seen u = true) → Z X [some (zr 1 0), some (zi (nI x)), some (zi (nI sn)), some (zi seen), some (zi (nI last)), some (zi (nI y)), none, none, none] [] [zH, zG F0 G A1 B] 0 0 8 := by
    intro m
    induction m with
    | zero => intro y last W Tr seen A1 hm; omega
    | succ m ih =>
      intro y last W Tr seen A1 hm hy hA hq hs hqA hW hgx
      have hl := bq_le hq
      have hg1 := fun q => hG x y hxn q
      rw [← hA.at 68 rfl] at hg1
      have hpush := fun (hu4 : y < 24) (hgz : g x y = true) => bq_push hq hs hqA hu4 (ff_of fun q => by
        obtain ⟨i, hi, e⟩ := (hs y hu4).mp q
        have := hW i hi
        omega) hgz (Or.inl rfl)
      refine z_iload F dX6_isMatched_8 rfl ?_
      refine z_bipush F (nI 24) dX6_isMatched_10 rfl ?_
      refine z_icmp_geN F (by omega) (by omega) (tgt := 65) dX6_isMatched_12 (by decide) (fun c_12 => ?_) (fun c_12 => ?_)
      · refine z_iconst F (nI 0) dX6_isMatched_65 rfl ?_
        refine z_istore F dX6_isMatched_66 (Nat.le_of_ble_eq_true rfl) ?_
        refine z_leq (L' := [_, _, _, _, _, _, _, _, _]) rfl ?_
        refine z_loc _ ?_ (two 25 0 last W Tr seen A1 (by omega) (by omega) hA hq hs hqA (fun u hu => hgx u (by omega)) (fun i hi => absurd hi (by omega)))
        exact ⟨rfl, rfl, rfl, rfl, rfl, rfl, trivial⟩
      · have hg1 := hg1 (by omega)
        refine z_aload_n F dX6_isMatched_15 rfl ?_
        refine z_ma F rfl 68 rfl (Nat.le_of_ble_eq_true rfl) rfl q1548 dX6_isMatched_16 ?_
        refine z_iload_n F dX6_isMatched_19 rfl ?_
        refine z_ialdGN F rfl rfl (Nat.le_of_ble_eq_true rfl) (by omega) rfl dX6_isMatched_20 ?_
        refine z_iload F dX6_isMatched_21 rfl ?_
        refine z_ishr F dX6_isMatched_23 ?_
        refine z_iconst F (nI 1) dX6_isMatched_24 rfl ?_
        refine z_iandB F (by omega) dX6_isMatched_25 ?_
        refine z_if_neB F (tgt := 32) dX6_isMatched_26 (by decide) (fun c_26 => ?_) (fun c_26 => ?_)
        · obtain ⟨p1, p2, p3, p4⟩ := hpush (by omega) (by rw [← hg1]; exact c_26)
          refine z_aload_n F dX6_isMatched_32 rfl ?_
          refine z_ma F rfl 71 rfl (Nat.le_of_ble_eq_true rfl) rfl q1551 dX6_isMatched_33 ?_
          refine z_iload F dX6_isMatched_36 rfl ?_
          refine z_iload F dX6_isMatched_38 rfl ?_
          refine z_iastGN F rfl rfl (Nat.le_of_ble_eq_true rfl) (by omega) dX6_isMatched_40 ?_
          refine z_weq (w' := [_, _]) rfl ?_
          refine z_iincN F 1 dX6_isMatched_41 rfl rfl ?_
          refine z_leq (L' := [_, _, _, _, _, _, _, _, _]) rfl ?_
          refine z_iload_n F dX6_isMatched_44 rfl ?_
          refine z_iconst F (nI 1) dX6_isMatched_45 rfl ?_
          refine z_iload F dX6_isMatched_46 rfl ?_
          refine z_ishlB F dX6_isMatched_48 ?_
          refine z_ior F dX6_isMatched_49 ?_
          refine z_istore_n F dX6_isMatched_50 (Nat.le_of_ble_eq_true rfl) ?_
          refine z_leq (L' := [_, _, _, _, _, _, _, _, _]) rfl ?_
          refine z_aload_n F dX6_isMatched_51 rfl ?_
          refine z_ma F rfl 70 rfl (Nat.le_of_ble_eq_true rfl) rfl q1550 dX6_isMatched_52 ?_
          refine z_iload F dX6_isMatched_55 rfl ?_
          refine z_iload_n F dX6_isMatched_57 rfl ?_
          refine z_iastGN F rfl rfl (Nat.le_of_ble_eq_true rfl) (by omega) dX6_isMatched_58 ?_
          refine z_weq (w' := [_, _]) rfl ?_
          refine z_iincN F 1 dX6_isMatched_59 rfl rfl ?_
          refine z_leq (L' := [_, _, _, _, _, _, _, _, _]) rfl ?_
          refine z_goto F (tgt := 8) dX6_isMatched_62 (by decide) ?_
          refine ih (y + 1) (last + 1) _ _ (seen ||| b1 y) _ (by omega) (by omega) (frm_zup (frm_zup hA (by decide)) (by decide)) p2 p3 p4 (fun i hi => ?_) (fun v hv hgv => ?_)
          · by_cases e : i = last
            · rw [e, wPut_at]; omega
            · rw [wPut_ne e]; have := hW i (by omega); omega
          · rw [bt_or1 _ (by omega)]
            by_cases e : v = y
            · rw [decide_eq_true e, Bool.or_true]
            · rw [hgx v (by omega) hgv]; rfl
        · refine z_goto F (tgt := 59) dX6_isMatched_29 (by decide) ?_
          refine z_iincN F 1 dX6_isMatched_59 rfl rfl ?_
          refine z_leq (L' := [_, _, _, _, _, _, _, _, _]) rfl ?_
          refine z_goto F (tgt := 8) dX6_isMatched_62 (by decide) ?_
          exact ih (y + 1) last W Tr seen A1 (by omega) (by omega) hA hq hs hqA (fun i hi => by have := hW i hi; omega) (fun v hv hgv => by
            by_cases e : v = y
            · rw [e, ← hg1, c_26] at hgv; cases hgv
            · exact hgx v (by omega) hgv)
  refine z_iconst F (nI 0) dX6_isMatched_0 rfl ?_
  refine z_istore_n F dX6_isMatched_1 (Nat.le_of_ble_eq_true rfl) ?_
  refine z_leq (L' := [_, _, _, _, _, _, _, _, _]) rfl ?_
  refine z_iconst F (nI 0) dX6_isMatched_2 rfl ?_
  refine z_istore F dX6_isMatched_3 (Nat.le_of_ble_eq_true rfl) ?_
  refine z_leq (L' := [_, _, _, _, _, _, _, _, _]) rfl ?_
  refine z_iconst F (nI 0) dX6_isMatched_5 rfl ?_
  refine z_istore F dX6_isMatched_6 (Nat.le_of_ble_eq_true rfl) ?_
  refine z_leq (L' := [_, _, _, _, _, _, _, _, _]) rfl ?_
  exact one 25 0 0 (fun _ => 0) (fun _ => 0) (nI 0) A (by omega) (by omega) frm.rf ⟨fun i hi => absurd hi (by omega), fun i j hi => absurd hi (by omega)⟩ (fun t _ => ⟨fun q => (by rw [show bt (nI 0) t = false from b_0 t] at q; cases q), fun ⟨i, hi, _⟩ => absurd hi (by omega)⟩) (fun i hi => absurd hi (by omega)) (fun i hi => absurd hi (by omega)) (fun u hu => absurd hu (by omega))
end C9yc
