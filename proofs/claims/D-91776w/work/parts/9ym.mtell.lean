/-! tell: the reference's operation -/
section C9ym
theorem lt_tb {x y : Nat} (i : Nat) (hx : x.testBit i = false) (hy : y.testBit i = true) (h : ∀ j, i < j → x.testBit j = y.testBit j) : x < y := by
  have e1 : x / 2 ^ (i + 1) = y / 2 ^ (i + 1) := by
    apply Nat.eq_of_testBit_eq
    intro j
    rw [← Nat.shiftRight_eq_div_pow, ← Nat.shiftRight_eq_div_pow, Nat.testBit_shiftRight, Nat.testBit_shiftRight]
    exact h _ (by omega)
  rw [Nat.testBit_eq_decide_div_mod_eq] at hx hy
  have hx := of_decide_eq_false hx
  have hy := of_decide_eq_true hy
  rw [Nat.pow_succ, ← Nat.div_div_eq_div_mul, ← Nat.div_div_eq_div_mul] at e1
  refine Nat.lt_of_not_le fun z => ?_
  have := Nat.div_le_div_right (c := 2 ^ i) z
  omega
theorem bt_tb {n x k : Nat} (hx : x < 2 ^ n) (hn : n ≤ 24) : bt (nI x) k = x.testBit k := by
  rcases Nat.lt_or_ge k 32 with q | q
  · exact bt_nI q
  · rw [b_big q, Nat.testBit_lt_two_pow (Nat.lt_of_lt_of_le hx (Nat.pow_le_pow_right (by decide) (by omega)))]
/-- the next subset below -/
theorem smk {n x r : Nat} (hn : n ≤ 24) (hx : 0 < x) (hxn : x < 2 ^ n) (hr : r < 2 ^ n) (hxr : ∀ i, bt (nI x) i = true → bt (nI r) i = true) : ∃ y, y < x ∧ (nI x - nI 1) &&& nI r = nI y ∧ (∀ i, bt (nI y) i = true → bt (nI r) i = true) ∧ ∀ q, q < x → (∀ i, bt (nI q) i = true → bt (nI r) i = true) → q ≤ y := by
  have hp : 2 ^ n ≤ 2 ^ 24 := Nat.pow_le_pow_right (by decide) hn
  have hx0 : ¬ nI x = 0 := fun e => by
    have := (nI_eq (show x < 2 ^ 31 by omega) (show 0 < 2 ^ 31 by omega)).mp e
    omega
  obtain ⟨i, hi, h1, h0⟩ := exists_low hx0
  obtain ⟨y, y1, y2⟩ := msk_of (M := (nI x - nI 1) &&& nI r) hn (fun k hk => by
    rw [b_and, Bool.and_eq_true] at hk
    exact in_lt hr hk.2)
  have by_ : ∀ k, y.testBit k = ((if k < i then true else (x.testBit k && !decide (k = i))) && r.testBit k) := fun k => by
    rw [← bt_tb y1 hn, ← y2, b_and, bt_pred hi h1 h0, bt_tb hxn hn, bt_tb hr hn]
  have bx0 : ∀ k, k < i → x.testBit k = false := fun k hk => by rw [← bt_tb hxn hn]; exact h0 k hk
  have bx1 : x.testBit i = true := by rw [← bt_tb hxn hn]; exact h1
  have bxr : ∀ k, x.testBit k = true → r.testBit k = true := fun k hk => by
    rw [← bt_tb hr hn]; exact hxr k (by rw [bt_tb hxn hn]; exact hk)
  have byh : ∀ k, i < k → y.testBit k = x.testBit k := fun k hk => by
    rw [by_ k, if_neg (by omega), decide_eq_false (show ¬ k = i by omega)]
    cases hb : x.testBit k with
    | false => rfl
    | true => rw [bxr k hb]; rfl
  have byi : y.testBit i = false := by
    rw [by_ i, if_neg (by omega), decide_eq_true rfl, Bool.not_true, Bool.and_false, Bool.false_and]
  refine ⟨y, lt_tb i byi bx1 byh, y2, fun k hk => ?_, fun q hq hqr => ?_⟩
  · rw [← y2, b_and, Bool.and_eq_true] at hk
    exact hk.2
  · refine Nat.le_of_not_lt fun hyq => ?_
    have hqn : q < 2 ^ n := by omega
    have bqr : ∀ k, q.testBit k = true → r.testBit k = true := fun k hk => by
      rw [← bt_tb hr hn]; exact hqr k (by rw [bt_tb hqn hn]; exact hk)
    have e1 : y / 2 ^ (i + 1) = x / 2 ^ (i + 1) := Nat.eq_of_testBit_eq fun k => by
      rw [Nat.testBit_div_two_pow, Nat.testBit_div_two_pow]
      exact byh _ (by omega)
    have e2 : q / 2 ^ (i + 1) = x / 2 ^ (i + 1) := Nat.le_antisymm (Nat.div_le_div_right (Nat.le_of_lt hq)) (by rw [← e1]; exact Nat.div_le_div_right (Nat.le_of_lt hyq))
    have bqx : ∀ k, i < k → q.testBit k = x.testBit k := fun k hk => by
      have h9 := congrArg (fun z => z.testBit (k - (i + 1))) e2
      simp only [Nat.testBit_div_two_pow] at h9
      rw [show k - (i + 1) + (i + 1) = k by omega] at h9
      exact h9
    by_cases hqi : q.testBit i = true
    · have e3 : x &&& q = x := Nat.eq_of_testBit_eq fun k => by
        rw [Nat.testBit_and]
        rcases Nat.lt_trichotomy k i with c | c | c
        · rw [bx0 k c]; rfl
        · rw [c, bx1, hqi]; rfl
        · rw [bqx k c, Bool.and_self]
      have : x &&& q ≤ q := Nat.and_le_right
      omega
    · have e3 : q &&& y = q := Nat.eq_of_testBit_eq fun k => by
        rw [Nat.testBit_and]
        rcases Nat.lt_trichotomy k i with c | c | c
        · rw [by_ k, if_pos c, Bool.true_and]
          cases hb : q.testBit k with
          | false => rfl
          | true => rw [bqr k hb]; rfl
        · rw [c, ff_of hqi]; rfl
        · rw [byh k c, bqx k c, Bool.and_self]
      have : q &&& y ≤ y := Nat.and_le_right
      omega
abbrev tlL : List Nat := [6, 23, 68, 69, 70, 71, 73, 74]
theorem c_mtell_ok (F0 : Nat → Int32) (G : Nat → Int64) (A : Nat → Nat → Int32) (B : Nat → Nat → Int64) (j n d v : Nat) (f : Nat → Int32) (hj : j < 8) (h : nok n d f) (hs : Slt A j n (nI d) f) (hv : v < n) (hfr : ∀ c, c < 1024 → A 74 c = nI 0) :
    zCtr yX6_tell cX6_tell 8 (some .int) 5 0 0 [zr 1 0, zi (nI j), zi (nI v)] [zH, zG F0 G A B] (fun r w => ((n ≤ 10 ∧ cjn n f = true ∧ ∃ ro, ro ≤ 24 ∧ r = some (zi (nI ro)) ∧ (∀ r', r' < ro → ¬ mF n f v r' (2 ^ n - 1)) ∧ mF n f v ro (2 ^ n - 1)) ∨ (¬ (n ≤ 10 ∧ cjn n f = true) ∧ r = some (zi (-1)))) ∧ ∃ F' A', w = [zH, zG F' G A' B] ∧ F' 0 = nI 0 ∧ frm [0, 4, 5, 24, 25] F0 F' ∧ frm tlL A A' ∧ ∀ c, c < 1024 → A' 74 c = nI 0) zNx := by
  refine z_start (by decide) [some (zr 1 0), some (zi (nI j)), some (zi (nI v)), none, none, none, none, none] rfl (fun _ => Nat.le_of_ble_eq_true rfl) (fun _ => rfl) (fun X F E hno hin => ?_)
  have hn1 := h.n1
  have hn := h.n24
  have main : ∀ (F1 : Nat → Int32) (A0 : Nat → Nat → Int32), n ≤ 10 → cjn n f = true → F1 0 = nI 0 → F1 4 = nI n → frm [0, 4, 5, 24, 25] F0 F1 → frm tlL A A0 → (∀ k, k < n → A0 6 k = f k) → (∀ c, c < 1024 → A0 74 c = nI 0) → Z X [some (zr 1 0), some (zi (nI j)), some (zi (nI v)), none, none, none, none, none] [] [zH, zG F1 G A0 B] 0 0 41 := by
    intro F1 A0 h10 hcj f0 f4 hF hA0 hf0 h740
    have hp2 : 2 ^ n ≤ 2 ^ 10 := Nat.pow_le_pow_right (by decide) h10
    have hp1 : 1 ≤ 2 ^ n := Nat.one_le_two_pow
    have hv2 : 2 ^ v < 2 ^ n := two_lt hv
    have hc := (cjn_conn h.n1 h.n24 (fun a b ha hb => h.sym ha hb)).mp hcj
    have eal : allB n = nI (2 ^ n - 1) := al_nI hn
    obtain ⟨r0, hr0, hm0⟩ := tl_ex h hc hv
    have hle : ∀ ro, (∀ r', r' < ro → ¬ mF n f v r' (2 ^ n - 1)) → ro ≤ 24 := fun ro hlo => Nat.le_of_not_lt fun z => hlo r0 (by omega) hm0
    have lp : ∀ (u ro : Nat) (A1 : Nat → Nat → Int32) (Kn : Nat → Bool), 25 - ro < u → (∀ r', r' < ro → ¬ mF n f v r' (2 ^ n - 1)) → frm tlL A A1 → (∀ k, k < n → A1 6 k = f k) → (∀ c, c < 1024 → A1 73 c = bI (Kn c)) → (∀ c, c < 1024 → (Kn c = true ↔ mF n f v ro c)) → (∀ c, c < 1024 → A1 74 c = nI 0) → Z X [some (zr 1 0), some (zi (nI j)), some (zi (nI v)), some (zi (nI ro)), none, none, none, none] [] [zH, zG F1 G A1 B] 0 0 74 := by
      intro u
      induction u with
      | zero => intro ro A1 Kn hu hlo; have := hle ro hlo; omega
      | succ u ih =>
        intro ro A1 Kn hu hlo hA1 hf1 h73 hKn h74
        have h24 := hle ro hlo
        have t73 := h73 (2 ^ n - 1) (by omega)
        have hend : Kn (2 ^ n - 1) = false → ∀ r', r' < ro + 1 → ¬ mF n f v r' (2 ^ n - 1) := fun hk r' hr' => by
          by_cases e : r' = ro
          · rw [e, ← hKn _ (by omega), hk]; decide
          · exact hlo r' (by omega)
        have cpy : Kn (2 ^ n - 1) = false → ∀ (Fr : Nat → Bool), (∀ c, c < 1024 → (Fr c = true ↔ mF n f v (ro + 1) c)) → ∀ (m c0 : Nat) (A2 : Nat → Nat → Int32), 1024 - c0 < m → c0 ≤ 1024 → frm tlL A A2 → (∀ k, k < n → A2 6 k = f k) → (∀ c, c < c0 → A2 73 c = bI (Fr c) ∧ A2 74 c = nI 0) → (∀ c, c0 ≤ c → c < 1024 → A2 74 c = bI (Fr c)) → Z X [some (zr 1 0), some (zi (nI j)), some (zi (nI v)), some (zi (nI (ro + 1))), some (zi (nI c0)), none, none, none] [] [zH, zG F1 G A2 B] 0 0 202 := by
          intro hk Fr hFr m
          induction m with
          | zero => intro c0 A2 hm; omega
          | succ m ih2 =>
            intro c0 A2 hm hc0 hA2 hf2 hlo2 hhi
            have t1 := fun z => hhi c0 (Nat.le_refl _) z
            refine z_iload F dX6_tell_202 rfl ?_
            refine z_sipush F (nI 1024) dX6_tell_204 rfl ?_
            refine z_icmp_geN F (by omega) (by omega) (tgt := 238) dX6_tell_207 (by decide) (fun c_207 => ?_) (fun c_207 => ?_)
            · refine z_goto F (tgt := 74) dX6_tell_238 (by decide) ?_
              refine z_loc _ ?_ (ih (ro + 1) A2 Fr (by omega) (hend hk) hA2 hf2 (fun c hc => (hlo2 c (by omega)).1) hFr (fun c hc => (hlo2 c (by omega)).2))
              exact ⟨rfl, rfl, rfl, rfl, trivial⟩
            · have t1 := t1 (by omega)
              refine z_aload_n F dX6_tell_210 rfl ?_
              refine z_ma F rfl 73 rfl (Nat.le_of_ble_eq_true rfl) rfl q1553 dX6_tell_211 ?_
              refine z_iload F dX6_tell_214 rfl ?_
              refine z_aload_n F dX6_tell_216 rfl ?_
              refine z_ma F rfl 74 rfl (Nat.le_of_ble_eq_true rfl) rfl q1554 dX6_tell_217 ?_
              refine z_iload F dX6_tell_220 rfl ?_
              refine z_zaldGN F rfl rfl (Nat.le_of_ble_eq_true rfl) (by omega) rfl dX6_tell_222 ?_
              refine z_zastGN F rfl rfl (Nat.le_of_ble_eq_true rfl) (by omega) dX6_tell_223 ?_
              refine z_weq (w' := [_, _]) rfl ?_
              refine z_aload_n F dX6_tell_224 rfl ?_
              refine z_ma F rfl 74 rfl (Nat.le_of_ble_eq_true rfl) rfl q1554 dX6_tell_225 ?_
              refine z_iload F dX6_tell_228 rfl ?_
              refine z_iconst F (nI 0) dX6_tell_230 rfl ?_
              refine z_zastGN F rfl rfl (Nat.le_of_ble_eq_true rfl) (by omega) dX6_tell_231 ?_
              refine z_weq (w' := [_, _]) rfl ?_
              refine z_iincN F 1 dX6_tell_232 rfl rfl ?_
              refine z_leq (L' := [_, _, _, _, _, _, _, _]) rfl ?_
              refine z_goto F (tgt := 202) dX6_tell_235 (by decide) ?_
              refine ih2 (c0 + 1) _ (by omega) (by omega) (frm_zup (frm_zup hA2 (by decide)) (by decide)) (fun k hk => ?_) (fun c hc => ?_) (fun c hc1 hc2 => ?_)
              · rw [zup2_ne (by decide), zup2_ne (by decide)]; exact hf2 k hk
              · rw [zup2_ne (show 73 ≠ 74 by decide), zup2_row, zup2_row]
                show (if c = c0 then _ else A2 73 c) = _ ∧ (if c = c0 then _ else zup2 A2 73 c0 _ 74 c) = _
                by_cases e : c = c0
                · rw [if_pos e, if_pos e, e, t1, nar_bI]; exact ⟨rfl, rfl⟩
                · rw [if_neg e, if_neg e, zup2_ne (show 74 ≠ 73 by decide)]; exact hlo2 c (by omega)
              · rw [zup2_row]
                show (if c = c0 then _ else zup2 A2 73 c0 _ 74 c) = _
                rw [if_neg (show ¬ c = c0 by omega), zup2_ne (show 74 ≠ 73 by decide)]; exact hhi c (by omega) hc2
        have sets : Kn (2 ^ n - 1) = false → ∀ (m s : Nat) (A2 : Nat → Nat → Int32) (Fr : Nat → Bool), s < m → s < 2 ^ n → frm tlL A A2 → (∀ k, k < n → A2 6 k = f k) → (∀ c, c ≤ s → A2 73 c = bI (Kn c)) → (∀ c, c < 1024 → A2 74 c = bI (Fr c)) → (∀ c, c < 1024 → (Fr c = true ↔ ∃ s', s < s' ∧ s' < 2 ^ n ∧ Kn s' = true ∧ ∃ q, mSt n f s' q ∧ nI c = nI s' ||| nI q)) → Z X [some (zr 1 0), some (zi (nI j)), some (zi (nI v)), some (zi (nI (ro + 1))), some (zi (nI s)), none, none, none] [] [zH, zG F1 G A2 B] 0 0 95 := by
          intro hk m
          induction m with
          | zero => intro s A2 Fr hm; omega
          | succ m ih2 =>
            intro s A2 Fr hm hs2 hA2 hf2 h732 h742 hFr
            have t1 := h732 s (Nat.le_refl _)
            obtain ⟨rN, r1, r2⟩ := msk_of (M := allB n &&& (nI s ^^^ (-1))) hn (fun k hk => by
              rw [b_and, Bool.and_eq_true] at hk
              exact al_lt hn k hk.1)
            have hrb : ∀ k, bt (nI rN) k = true ↔ (k < n ∧ bt (nI s) k = false) := fun k => by
              rw [← r2, b_and, bt_allB hn, Bool.and_eq_true, decide_eq_true_eq]
              refine and_congr_right fun hkn => ?_
              rw [bt_not _ (by omega)]
              cases bt (nI s) k <;> decide
            have subs : 0 < s → Kn s = true → ∀ (p x : Nat) (A3 : Nat → Nat → Int32) (Fr3 : Nat → Bool), x < p → x < 2 ^ n → (∀ i, bt (nI x) i = true → bt (nI rN) i = true) → frm tlL A A3 → (∀ k, k < n → A3 6 k = f k) → (∀ c, c < s → A3 73 c = bI (Kn c)) → (∀ c, c < 1024 → A3 74 c = bI (Fr3 c)) → (∀ c, c < 1024 → (Fr3 c = true ↔ (Fr c = true ∨ ∃ q, x < q ∧ mSt n f s q ∧ nI c = nI s ||| nI q))) → Z X [some (zr 1 0), some (zi (nI j)), some (zi (nI v)), some (zi (nI (ro + 1))), some (zi (nI s)), some (zi (nI (mostT n f (nI s)))), some (zi (nI rN)), some (zi (nI x))] [] [zH, zG F1 G A3 B] 0 0 144 := by
              intro hs0 hKs p
              induction p with
              | zero => intro x A3 Fr3 hp; omega
              | succ p ih3 =>
                intro x A3 Fr3 hp hx hxr hA3 hf3 h733 h743 hFr3
                have hmT : mostT n f (nI s) ≤ n := gN_k n
                have hpc := pc32_le (nI x)
                have nxt : 0 < x → ∃ y, y < x ∧ (nI x - nI 1) &&& nI rN = nI y ∧ (∀ i, bt (nI y) i = true → bt (nI rN) i = true) ∧ ∀ q, q < x → (∀ i, bt (nI q) i = true → bt (nI rN) i = true) → q ≤ y := fun hx0 => smk hn hx0 hx r1 hxr
                have hsub : ∀ q, mSt n f s q → ∀ i, bt (nI q) i = true → bt (nI rN) i = true := fun q hq i hb => (hrb i).mpr ⟨in_lt hq.2.1 hb, hq.2.2.1 i hb⟩
                have cont : ∀ (y : Nat) (A4 : Nat → Nat → Int32) (Fr4 : Nat → Bool), 0 < x → y < x → (∀ i, bt (nI y) i = true → bt (nI rN) i = true) → (∀ q, q < x → (∀ i, bt (nI q) i = true → bt (nI rN) i = true) → q ≤ y) → frm tlL A A4 → (∀ k, k < n → A4 6 k = f k) → (∀ c, c < s → A4 73 c = bI (Kn c)) → (∀ c, c < 1024 → A4 74 c = bI (Fr4 c)) → (∀ c, c < 1024 → (Fr4 c = true ↔ (Fr3 c = true ∨ (mSt n f s x ∧ nI c = nI s ||| nI x)))) → Z X [some (zr 1 0), some (zi (nI j)), some (zi (nI v)), some (zi (nI (ro + 1))), some (zi (nI s)), some (zi (nI (mostT n f (nI s)))), some (zi (nI rN)), some (zi (nI y))] [] [zH, zG F1 G A4 B] 0 0 144 := by
                  intro y A4 Fr4 hx0 hyx hyr hyq hA4 hf4 h734 h744 hFr4
                  refine ih3 y A4 Fr4 (by omega) (by omega) hyr hA4 hf4 h734 h744 (fun c hc => ?_)
                  rw [hFr4 c hc, hFr3 c hc]
                  constructor
                  · rintro ((a | ⟨q, a, b, e⟩) | ⟨b, e⟩)
                    · exact Or.inl a
                    · exact Or.inr ⟨q, by omega, b, e⟩
                    · exact Or.inr ⟨x, hyx, b, e⟩
                  · rintro (a | ⟨q, a, b, e⟩)
                    · exact Or.inl (Or.inl a)
                    · by_cases e2 : q = x
                      · rw [e2] at b e; exact Or.inr ⟨b, e⟩
                      · refine Or.inl (Or.inr ⟨q, ?_, b, e⟩)
                        refine Nat.lt_of_not_le fun z => ?_
                        have := hyq q (by omega) (hsub q b)
                        omega
                refine z_iload F dX6_tell_144 rfl ?_
                refine z_if_leN F (by omega) (tgt := 193) dX6_tell_146 (by decide) (fun c_146 => ?_) (fun c_146 => ?_)
                · refine z_loc [some (zr 1 0), some (zi (nI j)), some (zi (nI v)), some (zi (nI (ro + 1))), some (zi (nI s)), none, none, none] ⟨rfl, rfl, rfl, rfl, rfl, trivial⟩ ?_
                  refine z_idecN F (by omega) dX6_tell_193 rfl rfl ?_
                  refine z_leq (L' := [_, _, _, _, _, _, _, _]) rfl ?_
                  refine z_goto F (tgt := 95) dX6_tell_196 (by decide) ?_
                  refine ih2 (s - 1) A3 Fr3 (by omega) (by omega) hA3 hf3 (fun c hc => h733 c (by omega)) h743 (fun c hc => ?_)
                  rw [hFr3 c hc, hFr c hc]
                  constructor
                  · rintro (⟨s', a, b⟩ | ⟨q, a, b, e⟩)
                    · exact ⟨s', by omega, b⟩
                    · exact ⟨s, by omega, hs2, hKs, q, b, e⟩
                  · rintro ⟨s', a, b, e, q, e2, e3⟩
                    by_cases e4 : s' = s
                    · rw [e4] at e2 e3; exact Or.inr ⟨q, by have := e2.1; omega, e2, e3⟩
                    · exact Or.inl ⟨s', by omega, b, e, q, e2, e3⟩
                · obtain ⟨y, y1, y2, y3, y4⟩ := nxt (by omega)
                  obtain ⟨c9, e9, e8⟩ := or_lt hn hs2 hx
                  refine z_iload F dX6_tell_149 rfl ?_
                  refine z_callS F (c_bits (nI x)) 1 rfl (lw_S q1752 q1753 q117 q1754) (by decide +kernel) ⟨Nat.le_of_ble_eq_true rfl, Nat.le_of_ble_eq_true rfl⟩ ⟨by omega, by omega⟩ [0] 2 ⟨rfl, rfl, rfl, ⟨Or.inl rfl, trivial⟩⟩ (fun h => nomatch h) (Nat.le_of_ble_eq_true rfl) ⟨⟨Or.inr trivial, Or.inr trivial, trivial⟩, rfl, rfl, rfl, Nat.le_of_ble_eq_true rfl⟩ rfl rfl dX6_tell_151 (fun r_151 w_151 hp => ?_) (fun _ _ h => h.elim)
                  obtain ⟨rfl, rfl⟩ := hp
                  refine z_weq (w' := [zH, zG _ _ _ _]) rfl ?_
                  refine z_seq (S' := zi _ :: _) rfl ?_
                  refine z_iload F dX6_tell_154 rfl ?_
                  refine z_icmp_neN F (by omega) (by omega) (tgt := 181) dX6_tell_156 (by decide) (fun c_156 => ?_) (fun c_156 => ?_)
                  · refine z_iload F dX6_tell_181 rfl ?_
                    refine z_iconst F (nI 1) dX6_tell_183 rfl ?_
                    refine z_isub F dX6_tell_184 ?_
                    refine z_iload F dX6_tell_185 rfl ?_
                    refine z_iand F dX6_tell_187 ?_
                    refine z_ieq (y2) ?_
                    refine z_istore F dX6_tell_188 (Nat.le_of_ble_eq_true rfl) ?_
                    refine z_leq (L' := [_, _, _, _, _, _, _, _]) rfl ?_
                    refine z_goto F (tgt := 144) dX6_tell_190 (by decide) ?_
                    exact cont y A3 Fr3 (by omega) y1 y3 y4 hA3 hf3 h733 h743 (fun c hc => ⟨Or.inl, fun z => z.elim id (fun z => absurd z.1.2.2.2.1 c_156)⟩)
                  · refine z_aload_n F dX6_tell_159 rfl ?_
                    refine z_iload F dX6_tell_160 rfl ?_
                    refine z_iload F dX6_tell_162 rfl ?_
                    refine z_callV F (c_mareTold F1 G A3 B n s x f hn hx f4 hf3) 2 rfl (lw_V q2143 q2145 qs105 q117 q2146) (by decide +kernel) ⟨Nat.le_of_ble_eq_true rfl, Nat.le_of_ble_eq_true rfl⟩ ⟨by omega, by omega⟩ [0, 1] 2 ⟨rfl, rfl, rfl, ⟨Or.inl rfl, Or.inr rfl, trivial⟩⟩ (fun h => nomatch h) (Nat.le_of_ble_eq_true rfl) ⟨⟨Or.inr trivial, Or.inl rfl, trivial⟩, rfl, rfl, rfl, Nat.le_of_ble_eq_true rfl⟩ rfl zC6 (zat_G0 rfl) rfl dX6_tell_164 (fun r_164 w_164 hp => ?_) (fun _ _ h => h.elim)
                    obtain ⟨b, rfl, hb, A4, rfl, g4⟩ := hp
                    refine z_weq (w' := [zH, zG _ _ _ _]) rfl ?_
                    refine z_seq (S' := zi _ :: _) rfl ?_
                    refine z_if_eqB F (tgt := 181) dX6_tell_167 (by decide) (fun c_167 => ?_) (fun c_167 => ?_)
                    · refine z_iload F dX6_tell_181 rfl ?_
                      refine z_iconst F (nI 1) dX6_tell_183 rfl ?_
                      refine z_isub F dX6_tell_184 ?_
                      refine z_iload F dX6_tell_185 rfl ?_
                      refine z_iand F dX6_tell_187 ?_
                      refine z_ieq (y2) ?_
                      refine z_istore F dX6_tell_188 (Nat.le_of_ble_eq_true rfl) ?_
                      refine z_leq (L' := [_, _, _, _, _, _, _, _]) rfl ?_
                      refine z_goto F (tgt := 144) dX6_tell_190 (by decide) ?_
                      exact cont y A4 Fr3 (by omega) y1 y3 y4 (hA3.tr g4 (by decide) (by decide)) (fun k hk => by rw [g4.at 6 rfl]; exact hf3 k hk) (fun c hc => by rw [g4.at 73 rfl]; exact h733 c hc) (fun c hc => by rw [g4.at 74 rfl]; exact h743 c hc) (fun c hc => ⟨Or.inl, fun z => z.elim id (fun z => by rw [hb.mpr z.1.2.2.2.2] at c_167; cases c_167)⟩)
                    · refine z_aload_n F dX6_tell_170 rfl ?_
                      refine z_ma F rfl 74 rfl (Nat.le_of_ble_eq_true rfl) rfl q1554 dX6_tell_171 ?_
                      refine z_iload F dX6_tell_174 rfl ?_
                      refine z_iload F dX6_tell_176 rfl ?_
                      refine z_ior F dX6_tell_178 ?_
                      refine z_ieq (e8.symm) ?_
                      refine z_iconstB F true dX6_tell_179 rfl ?_
                      refine z_zastGN F rfl rfl (Nat.le_of_ble_eq_true rfl) (by omega) dX6_tell_180 ?_
                      refine z_weq (w' := [_, _]) rfl ?_
                      refine z_iload F dX6_tell_181 rfl ?_
                      refine z_iconst F (nI 1) dX6_tell_183 rfl ?_
                      refine z_isub F dX6_tell_184 ?_
                      refine z_iload F dX6_tell_185 rfl ?_
                      refine z_iand F dX6_tell_187 ?_
                      refine z_ieq (y2) ?_
                      refine z_istore F dX6_tell_188 (Nat.le_of_ble_eq_true rfl) ?_
                      refine z_leq (L' := [_, _, _, _, _, _, _, _]) rfl ?_
                      refine z_goto F (tgt := 144) dX6_tell_190 (by decide) ?_
                      refine cont y (zup2 A4 74 c9 (vp_nar .boolean (nI 1))) (fun c => if c = c9 then true else Fr3 c) (by omega) y1 y3 y4 (frm_zup (hA3.tr g4 (by decide) (by decide)) (by decide)) (fun k hk => by rw [zup2_ne (by decide), g4.at 6 rfl]; exact hf3 k hk) (fun c hc => by rw [zup2_ne (by decide), g4.at 73 rfl]; exact h733 c hc) (fun c hc => ?_) (fun c hc => ?_)
                      · rw [zup2_row, g4.at 74 rfl]
                        show (if c = c9 then _ else A3 74 c) = bI (if c = c9 then true else Fr3 c)
                        by_cases e : c = c9
                        · rw [if_pos e, if_pos e]; rfl
                        · rw [if_neg e, if_neg e]; exact h743 c hc
                      · have hst : mSt n f s x := ⟨by omega, hx, fun k hk => ((hrb k).mp (hxr k hk)).2, c_156, hb.mp c_167⟩
                        show (if c = c9 then true else Fr3 c) = true ↔ _
                        rw [← e8, nI_eq (show c < 2 ^ 31 by omega) (show c9 < 2 ^ 31 by omega)]
                        by_cases e : c = c9
                        · rw [if_pos e]; exact ⟨fun _ => Or.inr ⟨hst, e⟩, fun _ => rfl⟩
                        · rw [if_neg e]; exact ⟨Or.inl, fun z => z.elim id (fun z => absurd z.2 e)⟩
            refine z_iload F dX6_tell_95 rfl ?_
            refine z_if_leN F (by omega) (tgt := 199) dX6_tell_97 (by decide) (fun c_97 => ?_) (fun c_97 => ?_)
            · refine z_iconst F (nI 0) dX6_tell_199 rfl ?_
              refine z_istore F dX6_tell_200 (Nat.le_of_ble_eq_true rfl) ?_
              refine z_leq (L' := [_, _, _, _, _, _, _, _]) rfl ?_
              have es : s = 0 := by omega
              refine cpy hk Fr (fun c hc => ?_) 1025 0 A2 (by omega) (by omega) hA2 hf2 (fun c hc => absurd hc (by omega)) (fun c _ hc => h742 c hc)
              rw [hFr c hc, es]
              constructor
              · rintro ⟨s', a, b, e, q, e2, e3⟩
                obtain ⟨c9, k1, k2⟩ := or_lt hn b e2.2.1
                have : c = c9 := (nI_eq (show c < 2 ^ 31 by omega) (show c9 < 2 ^ 31 by omega)).mp (e3.trans k2.symm)
                exact ⟨by omega, s', a, b, (hKn s' (by omega)).mp e, q, e2, e3⟩
              · rintro ⟨a, s', a2, b, e, q, e2, e3⟩
                exact ⟨s', a2, b, (hKn s' (by omega)).mpr e, q, e2, e3⟩
            · refine z_aload_n F dX6_tell_100 rfl ?_
              refine z_ma F rfl 73 rfl (Nat.le_of_ble_eq_true rfl) rfl q1553 dX6_tell_101 ?_
              refine z_iload F dX6_tell_104 rfl ?_
              refine z_zaldGN F rfl rfl (Nat.le_of_ble_eq_true rfl) (by omega) rfl dX6_tell_106 ?_
              refine z_ieq (t1) ?_
              refine z_if_neB F (tgt := 113) dX6_tell_107 (by decide) (fun c_107 => ?_) (fun c_107 => ?_)
              · refine z_aload_n F dX6_tell_113 rfl ?_
                refine z_ma F rfl 73 rfl (Nat.le_of_ble_eq_true rfl) rfl q1553 dX6_tell_114 ?_
                refine z_iload F dX6_tell_117 rfl ?_
                refine z_iconst F (nI 0) dX6_tell_119 rfl ?_
                refine z_zastGN F rfl rfl (Nat.le_of_ble_eq_true rfl) (by omega) dX6_tell_120 ?_
                refine z_weq (w' := [_, _]) rfl ?_
                refine z_aload_n F dX6_tell_121 rfl ?_
                refine z_iload F dX6_tell_122 rfl ?_
                refine z_callV F (c_mtoldAt F1 G (zup2 A2 73 s (vp_nar .boolean (nI 0))) B n s f hn hs2 f4 (fun k hk => by rw [zup2_ne (by decide)]; exact hf2 k hk)) 1 rfl (lw_V q2139 q2141 qs104 q117 q2142) (by decide +kernel) ⟨Nat.le_of_ble_eq_true rfl, Nat.le_of_ble_eq_true rfl⟩ ⟨by omega, by omega⟩ [0, 1] 2 ⟨rfl, rfl, rfl, ⟨Or.inl rfl, Or.inr rfl, trivial⟩⟩ (fun h => nomatch h) (Nat.le_of_ble_eq_true rfl) ⟨⟨Or.inr trivial, Or.inl rfl, trivial⟩, rfl, rfl, rfl, Nat.le_of_ble_eq_true rfl⟩ rfl zC6 (zat_G0 rfl) rfl dX6_tell_124 (fun r_124 w_124 hp => ?_) (fun _ _ h => h.elim)
                obtain ⟨rfl, A3, rfl, g3⟩ := hp
                refine z_weq (w' := [zH, zG _ _ _ _]) rfl ?_
                refine z_seq (S' := zi _ :: _) rfl ?_
                refine z_istore F dX6_tell_127 (Nat.le_of_ble_eq_true rfl) ?_
                refine z_leq (L' := [_, _, _, _, _, _, _, _]) rfl ?_
                refine z_aload_n F dX6_tell_129 rfl ?_
                refine z_callV F (c_mall F1 G A3 B n hn f4) 0 rfl (lw_V q1880 q1882 qs63 q117 q1883) (by decide +kernel) ⟨Nat.le_of_ble_eq_true rfl, Nat.le_of_ble_eq_true rfl⟩ ⟨by omega, by omega⟩ [0, 1] 2 ⟨rfl, rfl, rfl, ⟨Or.inl rfl, Or.inr rfl, trivial⟩⟩ (fun h => nomatch h) (Nat.le_of_ble_eq_true rfl) ⟨⟨Or.inr trivial, Or.inl rfl, trivial⟩, rfl, rfl, rfl, Nat.le_of_ble_eq_true rfl⟩ rfl zC6 (zat_G0 rfl) rfl dX6_tell_130 (fun r_130 w_130 hp => ?_) (fun _ _ h => h.elim)
                obtain ⟨rfl, rfl⟩ := hp
                refine z_weq (w' := [zH, zG _ _ _ _]) rfl ?_
                refine z_seq (S' := zi _ :: _) rfl ?_
                refine z_iload F dX6_tell_133 rfl ?_
                refine z_iconst F (-1) dX6_tell_135 rfl ?_
                refine z_ixor F dX6_tell_136 ?_
                refine z_iand F dX6_tell_137 ?_
                refine z_ieq (r2) ?_
                refine z_istore F dX6_tell_138 (Nat.le_of_ble_eq_true rfl) ?_
                refine z_leq (L' := [_, _, _, _, _, _, _, _]) rfl ?_
                refine z_iload F dX6_tell_140 rfl ?_
                refine z_istore F dX6_tell_142 (Nat.le_of_ble_eq_true rfl) ?_
                refine z_leq (L' := [_, _, _, _, _, _, _, _]) rfl ?_
                refine subs (by omega) c_107 (rN + 1) rN A3 Fr (by omega) r1 (fun i hi => hi) ((frm_zup hA2 (by decide)).tr g3 (by decide) (by decide)) (fun k hk => by rw [g3.at 6 rfl, zup2_ne (by decide)]; exact hf2 k hk) (fun c hc => ?_) (fun c hc => by rw [g3.at 74 rfl, zup2_ne (by decide)]; exact h742 c hc) (fun c hc => ?_)
                · rw [g3.at 73 rfl, zup2_row]
                  show (if c = s then _ else A2 73 c) = _
                  rw [if_neg (by omega)]; exact h732 c (by omega)
                · refine ⟨Or.inl, fun z => z.elim id (fun ⟨q, a, b, e⟩ => ?_)⟩
                  have hqr : ∀ i, bt (nI q) i = true → bt (nI rN) i = true := fun i hb => (hrb i).mpr ⟨in_lt b.2.1 hb, b.2.2.1 i hb⟩
                  have e3 : q &&& rN = q := Nat.eq_of_testBit_eq fun k => by
                    rw [Nat.testBit_and]
                    cases hb : q.testBit k with
                    | false => rfl
                    | true => rw [← bt_tb r1 hn, hqr k (by rw [bt_tb b.2.1 hn]; exact hb)]; rfl
                  have : q &&& rN ≤ rN := Nat.and_le_right
                  omega
              · refine z_goto F (tgt := 193) dX6_tell_110 (by decide) ?_
                refine z_idecN F (by omega) dX6_tell_193 rfl rfl ?_
                refine z_leq (L' := [_, _, _, _, _, _, _, _]) rfl ?_
                refine z_goto F (tgt := 95) dX6_tell_196 (by decide) ?_
                refine ih2 (s - 1) A2 Fr (by omega) (by omega) hA2 hf2 (fun c hc => h732 c (by omega)) h742 (fun c hc => ?_)
                rw [hFr c hc]
                constructor
                · rintro ⟨s', a, b⟩
                  exact ⟨s', by omega, b⟩
                · rintro ⟨s', a, b, e, q⟩
                  by_cases e4 : s' = s
                  · rw [e4, c_107] at e; cases e
                  · exact ⟨s', by omega, b, e, q⟩
        refine z_aload_n F dX6_tell_74 rfl ?_
        refine z_ma F rfl 73 rfl (Nat.le_of_ble_eq_true rfl) rfl q1553 dX6_tell_75 ?_
        refine z_aload_n F dX6_tell_78 rfl ?_
        refine z_callV F (c_mall F1 G A1 B n hn f4) 0 rfl (lw_V q1880 q1882 qs63 q117 q1883) (by decide +kernel) ⟨Nat.le_of_ble_eq_true rfl, Nat.le_of_ble_eq_true rfl⟩ ⟨by omega, by omega⟩ [0, 1] 2 ⟨rfl, rfl, rfl, ⟨Or.inl rfl, Or.inr rfl, trivial⟩⟩ (fun h => nomatch h) (Nat.le_of_ble_eq_true rfl) ⟨⟨Or.inr trivial, Or.inl rfl, trivial⟩, rfl, rfl, rfl, Nat.le_of_ble_eq_true rfl⟩ rfl zC6 (zat_G0 rfl) rfl dX6_tell_79 (fun r_79 w_79 hp => ?_) (fun _ _ h => h.elim)
        obtain ⟨rfl, rfl⟩ := hp
        refine z_ieq eal ?_
        refine z_weq (w' := [zH, zG _ _ _ _]) rfl ?_
        refine z_seq (S' := zi _ :: _) rfl ?_
        refine z_zaldGN F rfl rfl (Nat.le_of_ble_eq_true rfl) (by omega) rfl dX6_tell_82 ?_
        refine z_ieq (t73) ?_
        refine z_if_neB F (tgt := 241) dX6_tell_83 (by decide) (fun c_83 => ?_) (fun c_83 => ?_)
        · refine z_iload_n F dX6_tell_241 rfl ?_
          exact z_iret F E rfl dX6_tell_242 (by omega) (by omega) (⟨Or.inl ⟨h10, hcj, ro, h24, rfl, hlo, (hKn _ (by omega)).mp c_83⟩, F1, A1, rfl, f0, hF, hA1, h74⟩)
        · refine z_iincN F 1 dX6_tell_86 rfl rfl ?_
          refine z_leq (L' := [_, _, _, _, _, _, _, _]) rfl ?_
          refine z_aload_n F dX6_tell_89 rfl ?_
          refine z_callV F (c_mall F1 G A1 B n hn f4) 0 rfl (lw_V q1880 q1882 qs63 q117 q1883) (by decide +kernel) ⟨Nat.le_of_ble_eq_true rfl, Nat.le_of_ble_eq_true rfl⟩ ⟨by omega, by omega⟩ [0, 1] 2 ⟨rfl, rfl, rfl, ⟨Or.inl rfl, Or.inr rfl, trivial⟩⟩ (fun h => nomatch h) (Nat.le_of_ble_eq_true rfl) ⟨⟨Or.inr trivial, Or.inl rfl, trivial⟩, rfl, rfl, rfl, Nat.le_of_ble_eq_true rfl⟩ rfl zC6 (zat_G0 rfl) rfl dX6_tell_90 (fun r_90 w_90 hp => ?_) (fun _ _ h => h.elim)
          obtain ⟨rfl, rfl⟩ := hp
          refine z_ieq eal ?_
          refine z_weq (w' := [zH, zG _ _ _ _]) rfl ?_
          refine z_seq (S' := zi _ :: _) rfl ?_
          refine z_istore F dX6_tell_93 (Nat.le_of_ble_eq_true rfl) ?_
          refine z_leq (L' := [_, _, _, _, _, _, _, _]) rfl ?_
          exact sets c_83 (2 ^ n) (2 ^ n - 1) A1 (fun _ => false) (by omega) (by omega) hA1 hf1 (fun c hc => h73 c (by omega)) h74 (fun c hc => ⟨fun z => (by cases z), fun ⟨s', a, b, _⟩ => by omega⟩)
    have clr_ : ∀ (m c0 : Nat) (A1 : Nat → Nat → Int32), 1024 - c0 < m → c0 ≤ 1024 → frm tlL A A1 → (∀ k, k < n → A1 6 k = f k) → (∀ c, c < c0 → A1 73 c = nI 0) → (∀ c, c < 1024 → A1 74 c = nI 0) → Z X [some (zr 1 0), some (zi (nI j)), some (zi (nI v)), some (zi (nI c0)), none, none, none, none] [] [zH, zG F1 G A1 B] 0 0 43 := by
      intro m
      induction m with
      | zero => intro c0 A1 hm; omega
      | succ m ih =>
        intro c0 A1 hm hc0 hA1 hf1 h73 h74
        refine z_iload_n F dX6_tell_43 rfl ?_
        refine z_sipush F (nI 1024) dX6_tell_44 rfl ?_
        refine z_icmp_geN F (by omega) (by omega) (tgt := 63) dX6_tell_47 (by decide) (fun c_47 => ?_) (fun c_47 => ?_)
        · refine z_aload_n F dX6_tell_63 rfl ?_
          refine z_ma F rfl 73 rfl (Nat.le_of_ble_eq_true rfl) rfl q1553 dX6_tell_64 ?_
          refine z_iconst F (nI 1) dX6_tell_67 rfl ?_
          refine z_iload_n F dX6_tell_68 rfl ?_
          refine z_ishlB F dX6_tell_69 ?_
          refine z_ieq ((b1_nI (by omega) : b1 v = nI (2 ^ v))) ?_
          refine z_iconst F (nI 1) dX6_tell_70 rfl ?_
          refine z_zastGN F rfl rfl (Nat.le_of_ble_eq_true rfl) (by omega) dX6_tell_71 ?_
          refine z_weq (w' := [_, _]) rfl ?_
          refine z_iconst F (nI 0) dX6_tell_72 rfl ?_
          refine z_istore_n F dX6_tell_73 (Nat.le_of_ble_eq_true rfl) ?_
          refine z_leq (L' := [_, _, _, _, _, _, _, _]) rfl ?_
          refine lp 26 0 (zup2 A1 73 (2 ^ v) (vp_nar .boolean (nI 1))) (fun c => decide (c = 2 ^ v)) (by omega) (fun r' hr' => absurd hr' (by omega)) (frm_zup hA1 (by decide)) (fun k hk => by rw [zup2_ne (by decide)]; exact hf1 k hk) (fun c hc => ?_) (fun c hc => ?_) (fun c hc => by rw [zup2_ne (by decide)]; exact h74 c hc)
          · rw [zup2_row]
            show (if c = 2 ^ v then _ else A1 73 c) = _
            by_cases e : c = 2 ^ v
            · rw [if_pos e, decide_eq_true e]; rfl
            · rw [if_neg e, decide_eq_false e]; exact h73 c (by omega)
          · exact decide_eq_true_iff
        · refine z_aload_n F dX6_tell_50 rfl ?_
          refine z_ma F rfl 73 rfl (Nat.le_of_ble_eq_true rfl) rfl q1553 dX6_tell_51 ?_
          refine z_iload_n F dX6_tell_54 rfl ?_
          refine z_iconst F (nI 0) dX6_tell_55 rfl ?_
          refine z_zastGN F rfl rfl (Nat.le_of_ble_eq_true rfl) (by omega) dX6_tell_56 ?_
          refine z_weq (w' := [_, _]) rfl ?_
          refine z_iincN F 1 dX6_tell_57 rfl rfl ?_
          refine z_leq (L' := [_, _, _, _, _, _, _, _]) rfl ?_
          refine z_goto F (tgt := 43) dX6_tell_60 (by decide) ?_
          refine ih (c0 + 1) _ (by omega) (by omega) (frm_zup hA1 (by decide)) (fun k hk => by rw [zup2_ne (by decide)]; exact hf1 k hk) (fun c hc => ?_) (fun c hc => by rw [zup2_ne (by decide)]; exact h74 c hc)
          rw [zup2_row]
          show (if c = c0 then _ else A1 73 c) = _
          by_cases e : c = c0
          · rw [if_pos e]; rfl
          · rw [if_neg e]; exact h73 c (by omega)
    refine z_iconst F (nI 0) dX6_tell_41 rfl ?_
    refine z_istore_n F dX6_tell_42 (Nat.le_of_ble_eq_true rfl) ?_
    refine z_leq (L' := [_, _, _, _, _, _, _, _]) rfl ?_
    exact clr_ 1025 0 A0 (by omega) (by omega) hA0 hf0 (fun c hc => absurd hc (by omega)) h740
  have hall : ∀ i, i < 32 → bt (allB n) i = true → i < n := fun i _ q => al_lt hn i q
  refine z_aload_n F dX6_tell_0 rfl ?_
  refine z_iload_n F dX6_tell_1 rfl ?_
  refine z_callV F (c_lays_ok _ _ _ _ j n (nI d) f hj (by omega) hn hs) 1 rfl (lw_V q1732 q1734 qs42 q117 q1735) (by decide +kernel) ⟨Nat.le_of_ble_eq_true rfl, Nat.le_of_ble_eq_true rfl⟩ ⟨by omega, by omega⟩ [0, 1] 2 ⟨rfl, rfl, rfl, ⟨Or.inl rfl, Or.inr rfl, trivial⟩⟩ (fun h => nomatch h) (Nat.le_of_ble_eq_true rfl) ⟨⟨Or.inr trivial, Or.inl rfl, trivial⟩, rfl, rfl, rfl, Nat.le_of_ble_eq_true rfl⟩ rfl zC6 (zat_G0 rfl) rfl dX6_tell_2 (fun r_2 w_2 hp => ?_) (fun _ _ h => h.elim)
  obtain ⟨rfl, F1, A1, rfl, f0, f1, f2, f3⟩ := hp
  refine z_weq (w' := [zH, zG _ _ _ _]) rfl ?_
  refine z_seq (S' := zi _ :: _) rfl ?_
  refine z_if_eqB F (tgt := 17) dX6_tell_5 (by decide) (fun c_5 => ?_) (fun c_5 => ?_)
  · cases c_5
  · refine z_aload_n F dX6_tell_8 rfl ?_
    refine z_iload_n F dX6_tell_9 rfl ?_
    refine z_iload_n F dX6_tell_10 rfl ?_
    refine z_callV F (c_mhas _ _ _ _ n (nI v) (nI v) f0 f3.1) 2 rfl (lw_V q1740 q1742 qs44 q117 q1743) (by decide +kernel) ⟨Nat.le_of_ble_eq_true rfl, Nat.le_of_ble_eq_true rfl⟩ ⟨by omega, by omega⟩ [0, 1] 2 ⟨rfl, rfl, rfl, ⟨Or.inl rfl, Or.inr rfl, trivial⟩⟩ (fun h => nomatch h) (Nat.le_of_ble_eq_true rfl) ⟨⟨Or.inr trivial, Or.inl rfl, trivial⟩, rfl, rfl, rfl, Nat.le_of_ble_eq_true rfl⟩ rfl zC6 (zat_G0 rfl) rfl dX6_tell_11 (fun r_11 w_11 hp => ?_) (fun _ _ h => h.elim)
    obtain ⟨rfl, rfl⟩ := hp
    rw [knB_n hv (by omega), Bool.and_self]
    rw [if_pos rfl]
    refine z_weq (w' := [zH, zG _ _ _ _]) rfl ?_
    refine z_seq (S' := zi _ :: _) rfl ?_
    refine z_if_neB F (tgt := 19) dX6_tell_14 (by decide) (fun c_14 => ?_) (fun c_14 => ?_)
    · refine z_aload_n F dX6_tell_19 rfl ?_
      refine z_mi F rfl 4 rfl (Nat.le_of_ble_eq_true rfl) rfl q1484 dX6_tell_20 ?_
      refine z_ieq (f3.1) ?_
      refine z_bipush F (nI 10) dX6_tell_23 rfl ?_
      refine z_icmp_gtN F (by omega) (by omega) (tgt := 39) dX6_tell_25 (by decide) (fun c_25 => ?_) (fun c_25 => ?_)
      · refine z_iconst F (-1) dX6_tell_39 rfl ?_
        exact z_iret F E rfl dX6_tell_40 (by omega) (by omega) (⟨Or.inr ⟨fun z => absurd z.1 (by omega), rfl⟩, F1, A1, rfl, f0, f1.to (by decide), f2.to (by decide), fun c hc => by rw [f2.at 74 rfl]; exact hfr c hc⟩)
      · refine z_aload_n F dX6_tell_28 rfl ?_
        refine z_aload_n F dX6_tell_29 rfl ?_
        refine z_callV F (c_mall F1 G A1 B n hn f3.1) 0 rfl (lw_V q1880 q1882 qs63 q117 q1883) (by decide +kernel) ⟨Nat.le_of_ble_eq_true rfl, Nat.le_of_ble_eq_true rfl⟩ ⟨by omega, by omega⟩ [0, 1] 2 ⟨rfl, rfl, rfl, ⟨Or.inl rfl, Or.inr rfl, trivial⟩⟩ (fun h => nomatch h) (Nat.le_of_ble_eq_true rfl) ⟨⟨Or.inr trivial, Or.inl rfl, trivial⟩, rfl, rfl, rfl, Nat.le_of_ble_eq_true rfl⟩ rfl zC6 (zat_G0 rfl) rfl dX6_tell_30 (fun r_30 w_30 hp => ?_) (fun _ _ h => h.elim)
        obtain ⟨rfl, rfl⟩ := hp
        refine z_weq (w' := [zH, zG _ _ _ _]) rfl ?_
        refine z_seq (S' := zi _ :: _) rfl ?_
        refine z_callV F (c_isWhole F1 G A1 B n f (allB n) hn hall f3.1 (fun k hk => f3.2.2 k (by omega))) 1 rfl (lw_V q1920 q1922 qs72 q117 q1923) (by decide +kernel) ⟨Nat.le_of_ble_eq_true rfl, Nat.le_of_ble_eq_true rfl⟩ ⟨by omega, by omega⟩ [0, 1] 2 ⟨rfl, rfl, rfl, ⟨Or.inl rfl, Or.inr rfl, trivial⟩⟩ (fun h => nomatch h) (Nat.le_of_ble_eq_true rfl) ⟨⟨Or.inr trivial, Or.inl rfl, trivial⟩, rfl, rfl, rfl, Nat.le_of_ble_eq_true rfl⟩ rfl zC6 (zat_G0 rfl) rfl dX6_tell_33 (fun r_33 w_33 hp => ?_) (fun _ _ h => h.elim)
        obtain ⟨rfl, F2, A2, rfl, g1, g2, g3⟩ := hp
        refine z_weq (w' := [zH, zG _ _ _ _]) rfl ?_
        refine z_seq (S' := zi _ :: _) rfl ?_
        refine z_if_neB F (tgt := 41) dX6_tell_36 (by decide) (fun c_36 => ?_) (fun c_36 => ?_)
        · refine z_loc _ ?_ (main F2 A2 (by omega) (by rw [cjn_mw h]; exact c_36) (by rw [g1.at 0 rfl]; exact f0) (by rw [g1.at 4 rfl]; exact f3.1) (f1.tr g1 (by decide) (by decide)) (f2.tr g2 (by decide) (by decide)) (fun k hk => by rw [g2.at 6 rfl]; exact f3.2.2 k (by omega)) (fun c hc => by rw [g2.at 74 rfl, f2.at 74 rfl]; exact hfr c hc))
          exact ⟨rfl, rfl, rfl, trivial⟩
        · refine z_iconst F (-1) dX6_tell_39 rfl ?_
          exact z_iret F E rfl dX6_tell_40 (by omega) (by omega) (⟨Or.inr ⟨fun z => (by rw [← cjn_mw h] at c_36; rw [c_36] at z; cases z.2), rfl⟩, F2, A2, rfl, by rw [g1.at 0 rfl]; exact f0, f1.tr g1 (by decide) (by decide), f2.tr g2 (by decide) (by decide), fun c hc => by rw [g2.at 74 rfl, f2.at 74 rfl]; exact hfr c hc⟩)
    · cases c_14
end C9ym
