/-! first steps on the way -/
section C75
def lfp (p : Nat → Bool) : Nat → Nat
  | 0 => 0
  | c + 1 => if lfp p c < c then lfp p c else if p c = true then c else c + 1
theorem lsf_spec (p : Nat → Bool) : ∀ n, lfp p n ≤ n ∧ (lfp p n < n → p (lfp p n) = true) ∧ ∀ c, c < lfp p n → p c = false
  | 0 => ⟨Nat.le_refl _, fun h => by simp [lfp] at h, fun c h => by simp [lfp] at h⟩
  | n + 1 => by
    obtain ⟨h1, h2, h3⟩ := lsf_spec p n
    rw [lfp]
    by_cases q : lfp p n < n
    · rw [if_pos q]; exact ⟨by omega, fun _ => h2 q, h3⟩
    · rw [if_neg q]
      have e : lfp p n = n := by omega
      rw [e] at h3
      by_cases q2 : p n = true
      · rw [if_pos q2]; exact ⟨by omega, fun _ => q2, h3⟩
      · rw [if_neg q2]
        refine ⟨Nat.le_refl _, fun h => by omega, fun c hc => ?_⟩
        by_cases q3 : c = n
        · rw [q3]; simpa using q2
        · exact h3 c (by omega)
theorem lsf_eq {p : Nat → Bool} {n j : Nat} (hj : j < n) (h1 : p j = true) (h2 : ∀ c, c < j → p c = false) : lfp p n = j := by
  obtain ⟨a1, a2, a3⟩ := lsf_spec p n
  rcases Nat.lt_trichotomy (lfp p n) j with q | q | q
  · have := a2 (by omega)
    rw [h2 _ q] at this; cases this
  · exact q
  · have := a3 j q
    rw [h1] at this; cases this
theorem lsf_no {p : Nat → Bool} {n : Nat} (h : ∀ c, c < n → p c = false) : ¬ lfp p n < n := fun q => by
  have := (lsf_spec p n).2.1 q
  rw [h _ q] at this; cases this
def dnI (p : Nat → Bool) (n : Nat) : Nat → Int32
  | 0 => -1
  | t + 1 => if p (n - 1 - t) = true then nI (n - 1 - t) else dnI p n t
theorem dn_spec (p : Nat → Bool) (n : Nat) : ∀ t, t ≤ n → ((∀ c, n - t ≤ c → c < n → p c = false) ∧ dnI p n t = -1) ∨ ∃ c, n - t ≤ c ∧ c < n ∧ p c = true ∧ (∀ c', n - t ≤ c' → c' < c → p c' = false) ∧ dnI p n t = nI c
  | 0, _ => Or.inl ⟨fun c h1 h2 => by omega, rfl⟩
  | t + 1, ht => by
    rw [dnI]
    by_cases q : p (n - 1 - t) = true
    · rw [if_pos q]
      exact Or.inr ⟨n - 1 - t, by omega, by omega, q, fun c' h1 h2 => by omega, rfl⟩
    · rw [if_neg q]
      have q' : p (n - 1 - t) = false := by simpa using q
      rcases dn_spec p n t (by omega) with ⟨h1, h2⟩ | ⟨c, h1, h2, h3, h4, h5⟩
      · refine Or.inl ⟨fun c a b => ?_, h2⟩
        by_cases e : c = n - 1 - t
        · rw [e]; exact q'
        · exact h1 c (by omega) b
      · refine Or.inr ⟨c, by omega, h2, h3, fun c' a b => ?_, h5⟩
        by_cases e : c' = n - 1 - t
        · rw [e]; exact q'
        · exact h4 c' (by omega) b
theorem dn_lsf (p : Nat → Bool) (n : Nat) : dnI p n n = if lfp p n < n then nI (lfp p n) else -1 := by
  rcases dn_spec p n n (Nat.le_refl _) with ⟨h1, h2⟩ | ⟨c, h1, h2, h3, h4, h5⟩
  · rw [h2, if_neg (lsf_no (fun c hc => h1 c (by omega) hc))]
  · have e := lsf_eq h2 h3 (fun c' hc => h4 c' (by omega) hc)
    rw [h5, e, if_pos h2]
def hpm (n : Nat) (f : Nat → Int32) (a b c : Nat) : Bool := bt (f a) c && decide (dI (dst n f (allB n) c b) + nI 1 = dI (dst n f (allB n) a b))
def hpI (n : Nat) (f : Nat → Int32) (a b : Nat) : Int32 := if a = b then -1 else if lfp (hpm n f a b) n < n then nI (lfp (hpm n f a b) n) else -1
def ap (p : Nat → Bool) : Nat → Bool
  | 0 => true
  | k + 1 => ap p k && p k
theorem ap_iff {p : Nat → Bool} : ∀ {k}, ap p k = true ↔ ∀ i, i < k → p i = true
  | 0 => ⟨fun _ i h => by omega, fun _ => rfl⟩
  | k + 1 => by
    rw [ap, Bool.and_eq_true, ap_iff]
    constructor
    · rintro ⟨h1, h2⟩ i hi
      by_cases q : i = k
      · rw [q]; exact h2
      · exact h1 i (by omega)
    · intro h
      exact ⟨fun i hi => h i (by omega), h k (by omega)⟩
def okA (n : Nat) (f : Nat → Int32) : Nat → Bool := ap (fun x => ap (fun y => (dst n f (allB n) x y).isSome) n)
theorem okA_s {n : Nat} {f : Nat → Int32} {a : Nat} : okA n f (a + 1) = (okA n f a && ap (fun y => (dst n f (allB n) a y).isSome) n) := rfl
theorem dI_m1 {n : Nat} {f : Nat → Int32} {a b : Nat} (hb : b < 32) : dI (dst n f (allB n) a b) = -1 ↔ (dst n f (allB n) a b).isSome = false := by
  cases h : dst n f (allB n) a b with
  | none => exact ⟨fun _ => rfl, fun _ => rfl⟩
  | some d =>
    have := dst_lt h hb
    exact ⟨fun e => absurd e (nI_ne (by omega)), fun e => by cases e⟩
theorem okA_cjn {n d : Nat} {f : Nat → Int32} (h : nok n d f) : okA n f n = cjn n f := by
  have e1 := cjn_conn h.n1 h.n24 (fun a b ha hb => h.sym ha hb)
  have e2 : okA n f n = true ↔ conn n f (allB n) := by
    unfold okA conn
    rw [ap_iff]
    constructor
    · intro q a b ha hb
      have := ap_iff.mp (q a (al_lt h.n24 a ha)) b (al_lt h.n24 b hb)
      exact Option.isSome_iff_exists.mp this
    · intro q a ha
      exact ap_iff.mpr (fun b hb => Option.isSome_iff_exists.mpr (q a b (al_t h.n24 ha) (al_t h.n24 hb)))
  cases q1 : okA n f n <;> cases q2 : cjn n f
  · rfl
  · exact (e2.mpr (e1.mp q2)).symm.trans q1 |>.symm
  · exact (e1.mpr (e2.mp q1)).symm.trans q2
  · rfl
theorem c_mroutes (F0 : Nat → Int32) (G : Nat → Int64) (A : Nat → Nat → Int32) (B : Nat → Nat → Int64) (n : Nat) (f : Nat → Int32) (hn : n ≤ 24) (h4 : F0 4 = nI n) (hf : ∀ k, k < n → A 6 k = f k) :
    zCtr yX6_routes cX6_routes 5 (some .boolean) 2 0 0 [zr 1 0] [zH, zG F0 G A B] (fun r w => r = some (zi (bI (okA n f n))) ∧ ∃ A', w = [zH, zG F0 G A' B] ∧ frm [23, 65] A A' ∧ (∀ a k, a < n → k < n → A' 23 (24 * a + k) = dI (dst n f (allB n) a k)) ∧ ∀ a k, a < n → k < n → A' 65 (24 * a + k) = hpI n f a k) zNx := by
  refine z_start (by decide) [some (zr 1 0), none, none, none, none] rfl (fun _ => Nat.le_of_ble_eq_true rfl) (fun _ => rfl) (fun X F E hno hin => ?_)
  have entry : ∀ (a b : Nat) (ok : Bool) (D H0 : Nat → Int32), a < n → b < n → ¬ a = b → (∀ a k, a < n → k < n → D (24 * a + k) = dI (dst n f (allB n) a k)) →
      (∀ A1, frm [23, 65] A A1 → A1 23 = D → A1 65 (24 * a + b) = dnI (hpm n f a b) n n → (∀ i, i ≠ 24 * a + b → A1 65 i = H0 i) → Z X [some (zr 1 0), some (zi (bI ok)), some (zi (nI a)), some (zi (nI b)), none] [] [zH, zG F0 G A1 B] 0 0 138) →
      ∀ (m j1 : Nat) (A1 : Nat → Nat → Int32), j1 < m → j1 ≤ n → frm [23, 65] A A1 → A1 23 = D → A1 65 (24 * a + b) = dnI (hpm n f a b) n (n - j1) → (∀ i, i ≠ 24 * a + b → A1 65 i = H0 i) → Z X [some (zr 1 0), some (zi (bI ok)), some (zi (nI a)), some (zi (nI b)), some (zi (nI j1 - nI 1))] [] [zH, zG F0 G A1 B] 0 0 71 := by
    intro a b ok D H0 ha hb hab hD kk m
    induction m with
    | zero => intro j1 A1 hm; omega
    | succ m ih =>
      intro j1 A1 hm h1 hA h23 h65 ho
      rcases j1 with _ | q
      ·
        refine z_iload F dX6_routes_71 rfl ?_
        refine z_if_lt F (tgt := 138) dX6_routes_73 (by decide) (fun c_73 => ?_) (fun c_73 => ?_)
        · refine z_loc _ ?_ (kk A1 hA h23 h65 ho)
          exact ⟨rfl, rfl, rfl, rfl, trivial⟩
        · exact absurd (by decide) c_73
      · have e1 : n - 1 - (n - (q + 1)) = q := by omega
        have e2 : n - q = n - (q + 1) + 1 := by omega
        have hdn : dnI (hpm n f a b) n (n - q) = if hpm n f a b q = true then nI q else dnI (hpm n f a b) n (n - (q + 1)) := by rw [e2, dnI, e1]
        have ga : A1 6 a = f a := by rw [hA.at 6 rfl]; exact hf a ha
        have gd : ∀ a k, a < n → k < n → A1 23 (24 * a + k) = dI (dst n f (allB n) a k) := by rw [h23]; exact hD
        refine z_leq (L' := [some (zr 1 0), some (zi (bI ok)), some (zi (nI a)), some (zi (nI b)), some (zi (nI q))]) (by rw [nI_dn]) ?_
        refine z_iload F dX6_routes_71 rfl ?_
        refine z_if_ltN F (by omega) (tgt := 138) dX6_routes_73 (by decide) (fun c_73 => ?_) (fun c_73 => ?_)
        · exact absurd c_73 (by omega)
        · refine z_iload_n F dX6_routes_76 rfl ?_
          refine z_iload_n F dX6_routes_77 rfl ?_
          refine z_icmp_eqN F (by omega) (by omega) (tgt := 138) dX6_routes_78 (by decide) (fun c_78 => ?_) (fun c_78 => ?_)
          · exact absurd c_78 (by omega)
          · refine z_aload_n F dX6_routes_81 rfl ?_
            refine z_iload_n F dX6_routes_82 rfl ?_
            refine z_iload F dX6_routes_83 rfl ?_
            refine z_callV F (c_isJoined _ _ _ _ a q (by omega) (by omega)) 2 rfl (lw_V q1748 q1750 qs46 q117 q1751) (by decide +kernel) ⟨Nat.le_of_ble_eq_true rfl, Nat.le_of_ble_eq_true rfl⟩ ⟨by omega, by omega⟩ [0, 1] 2 ⟨rfl, rfl, rfl, ⟨Or.inl rfl, Or.inr rfl, trivial⟩⟩ (fun h => nomatch h) (Nat.le_of_ble_eq_true rfl) ⟨⟨Or.inr trivial, Or.inl rfl, trivial⟩, rfl, rfl, rfl, Nat.le_of_ble_eq_true rfl⟩ rfl zC6 (zat_G0 rfl) rfl dX6_routes_85 (fun r_85 w_85 hp => ?_) (fun _ _ h => h.elim)
            obtain ⟨rfl, rfl⟩ := hp
            rw [ga]
            refine z_weq (w' := [zH, zG _ _ _ _]) rfl ?_
            refine z_seq (S' := zi _ :: _) rfl ?_
            refine z_if_eqB F (tgt := 132) dX6_routes_88 (by decide) (fun c_88 => ?_) (fun c_88 => ?_)
            · refine z_iinc F (nI q - nI 1) dX6_routes_132 rfl (nI_dn' q) ?_
              refine z_leq (L' := [_, _, _, _, _]) rfl ?_
              refine z_goto F (tgt := 71) dX6_routes_135 (by decide) ?_
              exact ih q A1 (by omega) (by omega) hA h23 (by rw [hdn, if_neg (by unfold hpm; rw [c_88]; simp)]; exact h65) ho
            · refine z_aload_n F dX6_routes_91 rfl ?_
              refine z_ma F rfl 23 rfl (Nat.le_of_ble_eq_true rfl) rfl q1503 dX6_routes_92 ?_
              refine z_bipush F (nI 24) dX6_routes_95 rfl ?_
              refine z_iload F dX6_routes_97 rfl ?_
              refine z_imulN F dX6_routes_99 ?_
              refine z_iload_n F dX6_routes_100 rfl ?_
              refine z_iaddN F dX6_routes_101 ?_
              refine z_ialdGN F rfl rfl (Nat.le_of_ble_eq_true rfl) (by omega) rfl dX6_routes_102 ?_
              refine z_iconst F (nI 1) dX6_routes_103 rfl ?_
              refine z_iadd F dX6_routes_104 ?_
              refine z_aload_n F dX6_routes_105 rfl ?_
              refine z_ma F rfl 23 rfl (Nat.le_of_ble_eq_true rfl) rfl q1503 dX6_routes_106 ?_
              refine z_bipush F (nI 24) dX6_routes_109 rfl ?_
              refine z_iload_n F dX6_routes_111 rfl ?_
              refine z_imulN F dX6_routes_112 ?_
              refine z_iload_n F dX6_routes_113 rfl ?_
              refine z_iaddN F dX6_routes_114 ?_
              refine z_ialdGN F rfl rfl (Nat.le_of_ble_eq_true rfl) (by omega) rfl dX6_routes_115 ?_
              refine z_icmp_ne F (tgt := 132) dX6_routes_116 (by decide) (fun c_116 => ?_) (fun c_116 => ?_)
              · refine z_iinc F (nI q - nI 1) dX6_routes_132 rfl (nI_dn' q) ?_
                refine z_leq (L' := [_, _, _, _, _]) rfl ?_
                refine z_goto F (tgt := 71) dX6_routes_135 (by decide) ?_
                refine ih q A1 (by omega) (by omega) hA h23 ?_ ho
                rw [gd q b (by omega) hb, gd a b ha hb] at c_116
                rw [hdn, if_neg (by unfold hpm; rw [c_88, decide_eq_false c_116]; simp)]
                exact h65
              · refine z_aload_n F dX6_routes_119 rfl ?_
                refine z_ma F rfl 65 rfl (Nat.le_of_ble_eq_true rfl) rfl q1545 dX6_routes_120 ?_
                refine z_bipush F (nI 24) dX6_routes_123 rfl ?_
                refine z_iload_n F dX6_routes_125 rfl ?_
                refine z_imulN F dX6_routes_126 ?_
                refine z_iload_n F dX6_routes_127 rfl ?_
                refine z_iaddN F dX6_routes_128 ?_
                refine z_iload F dX6_routes_129 rfl ?_
                refine z_iastGN F rfl rfl (Nat.le_of_ble_eq_true rfl) (by omega) dX6_routes_131 ?_
                refine z_weq (w' := [_, _]) rfl ?_
                refine z_iinc F (nI q - nI 1) dX6_routes_132 rfl (nI_dn' q) ?_
                refine z_leq (L' := [_, _, _, _, _]) rfl ?_
                refine z_goto F (tgt := 71) dX6_routes_135 (by decide) ?_
                refine ih q _ (by omega) (by omega) (frm_zup hA (by decide)) ((zup2_ne (by decide)).trans h23) ?_ (fun i hi => ?_)
                · rw [gd q b (by omega) hb, gd a b ha hb] at c_116
                  rw [hdn, if_pos (by unfold hpm; rw [c_88, decide_eq_true c_116]; rfl), zup2_row]
                  exact if_pos rfl
                · rw [zup2_row]
                  show (if i = _ then _ else A1 65 i) = _
                  rw [if_neg hi]; exact ho i hi
  have inner : ∀ (D : Nat → Int32), (∀ a k, a < n → k < n → D (24 * a + k) = dI (dst n f (allB n) a k)) → ∀ (a : Nat), a < n →
      (∀ A1, frm [23, 65] A A1 → A1 23 = D → (∀ x y, x < n → y < n → x < a + 1 → A1 65 (24 * x + y) = hpI n f x y) → Z X [some (zr 1 0), some (zi (bI (okA n f (a + 1)))), some (zi (nI (a + 1))), none, none] [] [zH, zG F0 G A1 B] 0 0 8) →
      ∀ (m b : Nat) (ok : Bool) (A1 : Nat → Nat → Int32), n - b < m → b ≤ n → ok = (okA n f a && ap (fun y => (dst n f (allB n) a y).isSome) b) → frm [23, 65] A A1 → A1 23 = D → (∀ x y, x < n → y < n → (x < a ∨ x = a ∧ y < b) → A1 65 (24 * x + y) = hpI n f x y) → Z X [some (zr 1 0), some (zi (bI ok)), some (zi (nI a)), some (zi (nI b)), none] [] [zH, zG F0 G A1 B] 0 0 18 := by
    intro D hD a ha kk m
    induction m with
    | zero => intro b ok A1 hm; omega
    | succ m ih =>
      intro b ok A1 hm hb hok hA h23 hh
      have gd : ∀ a k, a < n → k < n → A1 23 (24 * a + k) = dI (dst n f (allB n) a k) := by rw [h23]; exact hD
      have f138 : ∀ ok' A2, b < n → ok' = (okA n f a && ap (fun y => (dst n f (allB n) a y).isSome) (b + 1)) → frm [23, 65] A A2 → A2 23 = D → (∀ x y, x < n → y < n → (x < a ∨ x = a ∧ y < b + 1) → A2 65 (24 * x + y) = hpI n f x y) → Z X [some (zr 1 0), some (zi (bI ok')), some (zi (nI a)), some (zi (nI b)), none] [] [zH, zG F0 G A2 B] 0 0 138 := by
        intro ok' A2 hbn hok' hA2 h23' hh'
        refine z_iincN F 1 dX6_routes_138 rfl rfl ?_
        refine z_leq (L' := [_, _, _, _, _]) rfl ?_
        refine z_goto F (tgt := 18) dX6_routes_141 (by decide) ?_
        exact ih (b + 1) ok' A2 (by omega) (by omega) hok' hA2 h23' hh'
      have at71 : ∀ ok', b < n → ok' = (okA n f a && ap (fun y => (dst n f (allB n) a y).isSome) (b + 1)) → Z X [some (zr 1 0), some (zi (bI ok')), some (zi (nI a)), some (zi (nI b)), some (zi (nI n - nI 1))] [] [zH, zG F0 G (zup2 A1 65 (24 * a + b) (-1)) B] 0 0 71 := by
        intro ok' hbn hok'
        have z1 : zup2 A1 65 (24 * a + b) (-1) 65 (24 * a + b) = -1 := by rw [zup2_row]; exact if_pos rfl
        have z2 : ∀ i, i ≠ 24 * a + b → zup2 A1 65 (24 * a + b) (-1) 65 i = A1 65 i := fun i hi => by rw [zup2_row]; exact if_neg hi
        have z3 : ∀ (A2 : Nat → Nat → Int32), (∀ i, i ≠ 24 * a + b → A2 65 i = A1 65 i) → A2 65 (24 * a + b) = hpI n f a b → ∀ x y, x < n → y < n → (x < a ∨ x = a ∧ y < b + 1) → A2 65 (24 * x + y) = hpI n f x y := fun A2 q1 q2 x y hx hy hxy => by
          by_cases q : 24 * x + y = 24 * a + b
          · rw [show x = a by omega, show y = b by omega]; exact q2
          · rw [q1 _ q]; exact hh x y hx hy (by omega)
        have hA2 : frm [23, 65] A (zup2 A1 65 (24 * a + b) (-1)) := frm_zup hA (by decide)
        have h2 : zup2 A1 65 (24 * a + b) (-1) 23 = D := (zup2_ne (by decide)).trans h23
        by_cases hab : a = b
        · obtain ⟨q, hq⟩ : ∃ q, n = q + 1 := ⟨n - 1, by omega⟩
          refine z_leq (L' := [some (zr 1 0), some (zi (bI ok')), some (zi (nI a)), some (zi (nI b)), some (zi (nI q))]) (by rw [hq, nI_dn]) ?_
          refine z_iload F dX6_routes_71 rfl ?_
          refine z_if_ltN F (by omega) (tgt := 138) dX6_routes_73 (by decide) (fun c_73 => ?_) (fun c_73 => ?_)
          · exact absurd c_73 (by omega)
          · refine z_iload_n F dX6_routes_76 rfl ?_
            refine z_iload_n F dX6_routes_77 rfl ?_
            refine z_icmp_eqN F (by omega) (by omega) (tgt := 138) dX6_routes_78 (by decide) (fun c_78 => ?_) (fun c_78 => ?_)
            · refine z_loc _ ?_ (f138 ok' _ hbn hok' hA2 h2 (z3 _ z2 (by rw [z1, hpI, if_pos hab])))
              exact ⟨rfl, rfl, rfl, rfl, trivial⟩
            · exact absurd c_78 (by omega)
        · exact entry a b ok' D (A1 65) ha hbn hab hD (fun A2 g1 g2 g3 g4 => f138 ok' A2 hbn hok' g1 g2 (z3 A2 g4 (by rw [g3, dn_lsf, hpI, if_neg hab]))) (n + 1) n _ (by omega) (Nat.le_refl _) hA2 h2 (by rw [z1, Nat.sub_self]; rfl) z2
      refine z_iload_n F dX6_routes_18 rfl ?_
      refine z_aload_n F dX6_routes_19 rfl ?_
      refine z_mi F rfl 4 rfl (Nat.le_of_ble_eq_true rfl) rfl q1484 dX6_routes_20 ?_
      refine z_ieq (h4) ?_
      refine z_icmp_geN F (by omega) (by omega) (tgt := 144) dX6_routes_23 (by decide) (fun c_23 => ?_) (fun c_23 => ?_)
      · refine z_iincN F 1 dX6_routes_144 rfl rfl ?_
        refine z_leq (L' := [_, _, _, _, _]) rfl ?_
        refine z_goto F (tgt := 8) dX6_routes_147 (by decide) ?_
        rw [show b = n by omega] at hh hok
        rw [hok]
        refine z_loc _ ?_ (kk A1 hA h23 (fun x y hx hy h => hh x y hx hy (by omega)))
        exact ⟨rfl, rfl, rfl, trivial⟩
      · refine z_iload_n F dX6_routes_26 rfl ?_
        refine z_if_eqB F (tgt := 49) dX6_routes_27 (by decide) (fun c_27 => ?_) (fun c_27 => ?_)
        · refine z_iconstB F false dX6_routes_49 rfl ?_
          refine z_istore_n F dX6_routes_50 (Nat.le_of_ble_eq_true rfl) ?_
          refine z_leq (L' := [_, _, _, _, _]) rfl ?_
          refine z_aload_n F dX6_routes_51 rfl ?_
          refine z_ma F rfl 65 rfl (Nat.le_of_ble_eq_true rfl) rfl q1545 dX6_routes_52 ?_
          refine z_bipush F (nI 24) dX6_routes_55 rfl ?_
          refine z_iload_n F dX6_routes_57 rfl ?_
          refine z_imulN F dX6_routes_58 ?_
          refine z_iload_n F dX6_routes_59 rfl ?_
          refine z_iaddN F dX6_routes_60 ?_
          refine z_iconst F (-1) dX6_routes_61 rfl ?_
          refine z_iastGN F rfl rfl (Nat.le_of_ble_eq_true rfl) (by omega) dX6_routes_62 ?_
          refine z_weq (w' := [_, _]) rfl ?_
          refine z_aload_n F dX6_routes_63 rfl ?_
          refine z_mi F rfl 4 rfl (Nat.le_of_ble_eq_true rfl) rfl q1484 dX6_routes_64 ?_
          refine z_ieq (h4) ?_
          refine z_iconst F (nI 1) dX6_routes_67 rfl ?_
          refine z_isub F dX6_routes_68 ?_
          refine z_istore F dX6_routes_69 (Nat.le_of_ble_eq_true rfl) ?_
          refine z_leq (L' := [_, _, _, _, _]) rfl ?_
          exact at71 false (by omega) (by rw [ap, ← Bool.and_assoc, ← hok, c_27]; rfl)
        · refine z_aload_n F dX6_routes_30 rfl ?_
          refine z_ma F rfl 23 rfl (Nat.le_of_ble_eq_true rfl) rfl q1503 dX6_routes_31 ?_
          refine z_bipush F (nI 24) dX6_routes_34 rfl ?_
          refine z_iload_n F dX6_routes_36 rfl ?_
          refine z_imulN F dX6_routes_37 ?_
          refine z_iload_n F dX6_routes_38 rfl ?_
          refine z_iaddN F dX6_routes_39 ?_
          refine z_ialdGN F rfl rfl (Nat.le_of_ble_eq_true rfl) (by omega) rfl dX6_routes_40 ?_
          refine z_iconst F (-1) dX6_routes_41 rfl ?_
          refine z_icmp_eq F (tgt := 49) dX6_routes_42 (by decide) (fun c_42 => ?_) (fun c_42 => ?_)
          · refine z_iconstB F false dX6_routes_49 rfl ?_
            refine z_istore_n F dX6_routes_50 (Nat.le_of_ble_eq_true rfl) ?_
            refine z_leq (L' := [_, _, _, _, _]) rfl ?_
            refine z_aload_n F dX6_routes_51 rfl ?_
            refine z_ma F rfl 65 rfl (Nat.le_of_ble_eq_true rfl) rfl q1545 dX6_routes_52 ?_
            refine z_bipush F (nI 24) dX6_routes_55 rfl ?_
            refine z_iload_n F dX6_routes_57 rfl ?_
            refine z_imulN F dX6_routes_58 ?_
            refine z_iload_n F dX6_routes_59 rfl ?_
            refine z_iaddN F dX6_routes_60 ?_
            refine z_iconst F (-1) dX6_routes_61 rfl ?_
            refine z_iastGN F rfl rfl (Nat.le_of_ble_eq_true rfl) (by omega) dX6_routes_62 ?_
            refine z_weq (w' := [_, _]) rfl ?_
            refine z_aload_n F dX6_routes_63 rfl ?_
            refine z_mi F rfl 4 rfl (Nat.le_of_ble_eq_true rfl) rfl q1484 dX6_routes_64 ?_
            refine z_ieq (h4) ?_
            refine z_iconst F (nI 1) dX6_routes_67 rfl ?_
            refine z_isub F dX6_routes_68 ?_
            refine z_istore F dX6_routes_69 (Nat.le_of_ble_eq_true rfl) ?_
            refine z_leq (L' := [_, _, _, _, _]) rfl ?_
            exact at71 false (by omega) (by rw [gd a b ha (by omega)] at c_42; rw [ap, ← Bool.and_assoc, ← hok, c_27, (dI_m1 (by omega)).mp c_42]; rfl)
          · refine z_iconstB F true dX6_routes_45 rfl ?_
            refine z_goto F (tgt := 50) dX6_routes_46 (by decide) ?_
            refine z_istore_n F dX6_routes_50 (Nat.le_of_ble_eq_true rfl) ?_
            refine z_leq (L' := [_, _, _, _, _]) rfl ?_
            refine z_aload_n F dX6_routes_51 rfl ?_
            refine z_ma F rfl 65 rfl (Nat.le_of_ble_eq_true rfl) rfl q1545 dX6_routes_52 ?_
            refine z_bipush F (nI 24) dX6_routes_55 rfl ?_
            refine z_iload_n F dX6_routes_57 rfl ?_
            refine z_imulN F dX6_routes_58 ?_
            refine z_iload_n F dX6_routes_59 rfl ?_
            refine z_iaddN F dX6_routes_60 ?_
            refine z_iconst F (-1) dX6_routes_61 rfl ?_
            refine z_iastGN F rfl rfl (Nat.le_of_ble_eq_true rfl) (by omega) dX6_routes_62 ?_
            refine z_weq (w' := [_, _]) rfl ?_
            refine z_aload_n F dX6_routes_63 rfl ?_
            refine z_mi F rfl 4 rfl (Nat.le_of_ble_eq_true rfl) rfl q1484 dX6_routes_64 ?_
            refine z_ieq (h4) ?_
            refine z_iconst F (nI 1) dX6_routes_67 rfl ?_
            refine z_isub F dX6_routes_68 ?_
            refine z_istore F dX6_routes_69 (Nat.le_of_ble_eq_true rfl) ?_
            refine z_leq (L' := [_, _, _, _, _]) rfl ?_
            exact at71 true (by omega) (by
              rw [gd a b ha (by omega)] at c_42
              have e : (dst n f (allB n) a b).isSome = true := by
                cases q : (dst n f (allB n) a b).isSome with
                | true => rfl
                | false => exact absurd ((dI_m1 (by omega)).mpr q) c_42
              rw [ap, ← Bool.and_assoc, ← hok, c_27, e]; rfl)
  have outer : ∀ (D : Nat → Int32), (∀ a k, a < n → k < n → D (24 * a + k) = dI (dst n f (allB n) a k)) → ∀ (m a : Nat) (A1 : Nat → Nat → Int32), n - a < m → a ≤ n → frm [23, 65] A A1 → A1 23 = D → (∀ x y, x < n → y < n → x < a → A1 65 (24 * x + y) = hpI n f x y) → Z X [some (zr 1 0), some (zi (bI (okA n f a))), some (zi (nI a)), none, none] [] [zH, zG F0 G A1 B] 0 0 8 := by
    intro D hD m
    induction m with
    | zero => intro a A1 hm; omega
    | succ m ih =>
      intro a A1 hm ha hA h23 hh
      refine z_iload_n F dX6_routes_8 rfl ?_
      refine z_aload_n F dX6_routes_9 rfl ?_
      refine z_mi F rfl 4 rfl (Nat.le_of_ble_eq_true rfl) rfl q1484 dX6_routes_10 ?_
      refine z_ieq (h4) ?_
      refine z_icmp_geN F (by omega) (by omega) (tgt := 150) dX6_routes_13 (by decide) (fun c_13 => ?_) (fun c_13 => ?_)
      · refine z_iload_n F dX6_routes_150 rfl ?_
        exact z_zret F E rfl (bI_nar _) dX6_routes_151 (by omega) (by omega) (⟨by rw [show a = n by omega], A1, rfl, hA, by rw [h23]; exact hD, fun x y hx hy => hh x y hx hy (by omega)⟩)
      · refine z_iconst F (nI 0) dX6_routes_16 rfl ?_
        refine z_istore_n F dX6_routes_17 (Nat.le_of_ble_eq_true rfl) ?_
        refine z_leq (L' := [_, _, _, _, _]) rfl ?_
        exact inner D hD a (by omega) (fun A2 g1 g2 g3 => ih (a + 1) A2 (by omega) (by omega) g1 g2 g3) (n + 1) 0 (okA n f a) A1 (by omega) (by omega) (by rw [ap, Bool.and_true]) hA h23 (fun x y hx hy h => hh x y hx hy (by omega))
  refine z_aload_n F dX6_routes_0 rfl ?_
  refine z_callV F (c_measures F0 _ _ _ n f hn h4 hf) 0 rfl (lw_V q2083 q2085 qs95 q117 q2086) (by decide +kernel) ⟨Nat.le_of_ble_eq_true rfl, Nat.le_of_ble_eq_true rfl⟩ ⟨by omega, by omega⟩ [0, 1] 2 ⟨rfl, rfl, rfl, ⟨Or.inl rfl, Or.inr rfl, trivial⟩⟩ (fun h => nomatch h) (Nat.le_of_ble_eq_true rfl) ⟨⟨Or.inr trivial, Or.inl rfl, trivial⟩, rfl, rfl, rfl, Nat.le_of_ble_eq_true rfl⟩ rfl zC6 (zat_G0 rfl) rfl dX6_routes_1 (fun r_1 w_1 hp => ?_) (fun _ _ h => h.elim)
  obtain ⟨rfl, A1, rfl, g1, g2⟩ := hp
  refine z_weq (w' := [zH, zG _ _ _ _]) rfl ?_
  refine z_seq (S' := []) rfl ?_
  refine z_iconstB F true dX6_routes_4 rfl ?_
  refine z_istore_n F dX6_routes_5 (Nat.le_of_ble_eq_true rfl) ?_
  refine z_leq (L' := [_, _, _, _, _]) rfl ?_
  refine z_iconst F (nI 0) dX6_routes_6 rfl ?_
  refine z_istore_n F dX6_routes_7 (Nat.le_of_ble_eq_true rfl) ?_
  refine z_leq (L' := [_, _, _, _, _]) rfl ?_
  exact outer (A1 23) g2 (n + 1) 0 A1 (by omega) (by omega) (g1.to (by decide)) rfl (fun x y hx hy h => by omega)
theorem c_mhop_ok (F0 : Nat → Int32) (G : Nat → Int64) (A : Nat → Nat → Int32) (B : Nat → Nat → Int64) (j n d : Nat) (f : Nat → Int32) (a b : Nat) (hj : j < 8) (h : nok n d f) (hs : Slt A j n (nI d) f) (ha : a < n) (hb : b < n) :
    zCtr yX6_hop cX6_hop 4 (some .int) 3 0 0 [zr 1 0, zi (nI j), zi (nI a), zi (nI b)] [zH, zG F0 G A B] (fun r w => r = some (zi (if cjn n f = true then hpI n f a b else -1)) ∧ ∃ F' A', w = [zH, zG F' G A' B] ∧ F' 0 = nI 0 ∧ frm [0, 4, 5] F0 F' ∧ frm [6, 23, 65] A A') zNx := by
  refine z_start (by decide) [some (zr 1 0), some (zi (nI j)), some (zi (nI a)), some (zi (nI b))] rfl (fun _ => Nat.le_of_ble_eq_true rfl) (fun _ => rfl) (fun X F E hno hin => ?_)
  have hn1 := h.n1
  have hn := h.n24
  refine z_aload_n F dX6_hop_0 rfl ?_
  refine z_iload_n F dX6_hop_1 rfl ?_
  refine z_callV F (c_lays_ok _ _ _ _ j n (nI d) f hj (by omega) hn hs) 1 rfl (lw_V q1732 q1734 qs42 q117 q1735) (by decide +kernel) ⟨Nat.le_of_ble_eq_true rfl, Nat.le_of_ble_eq_true rfl⟩ ⟨by omega, by omega⟩ [0, 1] 2 ⟨rfl, rfl, rfl, ⟨Or.inl rfl, Or.inr rfl, trivial⟩⟩ (fun h => nomatch h) (Nat.le_of_ble_eq_true rfl) ⟨⟨Or.inr trivial, Or.inl rfl, trivial⟩, rfl, rfl, rfl, Nat.le_of_ble_eq_true rfl⟩ rfl zC6 (zat_G0 rfl) rfl dX6_hop_2 (fun r_2 w_2 hp => ?_) (fun _ _ h => h.elim)
  obtain ⟨rfl, F1, A1, rfl, f0, f1, f2, f3⟩ := hp
  refine z_weq (w' := [zH, zG _ _ _ _]) rfl ?_
  refine z_seq (S' := zi _ :: _) rfl ?_
  refine z_if_eqB F (tgt := 17) dX6_hop_5 (by decide) (fun c_5 => ?_) (fun c_5 => ?_)
  · cases c_5
  · refine z_aload_n F dX6_hop_8 rfl ?_
    refine z_iload_n F dX6_hop_9 rfl ?_
    refine z_iload_n F dX6_hop_10 rfl ?_
    refine z_callV F (c_mhas _ _ _ _ n (nI a) (nI b) f0 f3.1) 2 rfl (lw_V q1740 q1742 qs44 q117 q1743) (by decide +kernel) ⟨Nat.le_of_ble_eq_true rfl, Nat.le_of_ble_eq_true rfl⟩ ⟨by omega, by omega⟩ [0, 1] 2 ⟨rfl, rfl, rfl, ⟨Or.inl rfl, Or.inr rfl, trivial⟩⟩ (fun h => nomatch h) (Nat.le_of_ble_eq_true rfl) ⟨⟨Or.inr trivial, Or.inl rfl, trivial⟩, rfl, rfl, rfl, Nat.le_of_ble_eq_true rfl⟩ rfl zC6 (zat_G0 rfl) rfl dX6_hop_11 (fun r_11 w_11 hp => ?_) (fun _ _ h => h.elim)
    obtain ⟨rfl, rfl⟩ := hp
    rw [knB_n ha (by omega), knB_n hb (by omega), Bool.and_self]
    rw [if_pos rfl]
    refine z_weq (w' := [zH, zG _ _ _ _]) rfl ?_
    refine z_seq (S' := zi _ :: _) rfl ?_
    refine z_if_neB F (tgt := 19) dX6_hop_14 (by decide) (fun c_14 => ?_) (fun c_14 => ?_)
    · refine z_aload_n F dX6_hop_19 rfl ?_
      refine z_callV F (c_mroutes F1 _ _ _ n f hn f3.1 (fun k hk => f3.2.2 k (by omega))) 0 rfl (lw_V q2079 q2081 qs94 q117 q2082) (by decide +kernel) ⟨Nat.le_of_ble_eq_true rfl, Nat.le_of_ble_eq_true rfl⟩ ⟨by omega, by omega⟩ [0, 1] 2 ⟨rfl, rfl, rfl, ⟨Or.inl rfl, Or.inr rfl, trivial⟩⟩ (fun h => nomatch h) (Nat.le_of_ble_eq_true rfl) ⟨⟨Or.inr trivial, Or.inl rfl, trivial⟩, rfl, rfl, rfl, Nat.le_of_ble_eq_true rfl⟩ rfl zC6 (zat_G0 rfl) rfl dX6_hop_20 (fun r_20 w_20 hp => ?_) (fun _ _ h => h.elim)
      obtain ⟨rfl, A2, rfl, g1, g2, g3⟩ := hp
      rw [okA_cjn h]
      refine z_weq (w' := [zH, zG _ _ _ _]) rfl ?_
      refine z_seq (S' := zi _ :: _) rfl ?_
      refine z_if_eqB F (tgt := 45) dX6_hop_23 (by decide) (fun c_23 => ?_) (fun c_23 => ?_)
      · refine z_iconst F (-1) dX6_hop_45 rfl ?_
        exact z_iret F E rfl dX6_hop_46 (by omega) (by omega) (⟨by rw [c_23]; rfl, F1, A2, rfl, f0, f1, f2.tr g1 (by decide) (by decide)⟩)
      · refine z_iload_n F dX6_hop_26 rfl ?_
        refine z_iload_n F dX6_hop_27 rfl ?_
        refine z_icmp_eqN F (by omega) (by omega) (tgt := 45) dX6_hop_28 (by decide) (fun c_28 => ?_) (fun c_28 => ?_)
        · refine z_iconst F (-1) dX6_hop_45 rfl ?_
          exact z_iret F E rfl dX6_hop_46 (by omega) (by omega) (⟨by rw [c_23, if_pos rfl, hpI, if_pos c_28], F1, A2, rfl, f0, f1, f2.tr g1 (by decide) (by decide)⟩)
        · refine z_aload_n F dX6_hop_31 rfl ?_
          refine z_ma F rfl 65 rfl (Nat.le_of_ble_eq_true rfl) rfl q1545 dX6_hop_32 ?_
          refine z_bipush F (nI 24) dX6_hop_35 rfl ?_
          refine z_iload_n F dX6_hop_37 rfl ?_
          refine z_imulN F dX6_hop_38 ?_
          refine z_iload_n F dX6_hop_39 rfl ?_
          refine z_iaddN F dX6_hop_40 ?_
          refine z_ialdGN F rfl rfl (Nat.le_of_ble_eq_true rfl) (by omega) rfl dX6_hop_41 ?_
          refine z_goto F (tgt := 46) dX6_hop_42 (by decide) ?_
          exact z_iret F E rfl dX6_hop_46 (by omega) (by omega) (⟨by rw [c_23, if_pos rfl, g3 a b ha hb], F1, A2, rfl, f0, f1, f2.tr g1 (by decide) (by decide)⟩)
    · cases c_14
end C75
