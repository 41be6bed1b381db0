/-! halves, bound, count -/
section C61
theorem al_nI {n : Nat} (hn : n ≤ 24) : allB n = nI (2 ^ n - 1) := (by decide +kernel : ∀ n, n < 25 → allB n = nI (2 ^ n - 1)) n (by omega)
theorem b1_nI {n : Nat} (hn : n ≤ 24) : nI 1 <<< (nI n &&& 31) = nI (2 ^ n) := (by decide +kernel : ∀ n, n < 25 → nI 1 <<< (nI n &&& 31) = nI (2 ^ n)) n (by omega)
def hls (f : Nat → Int32) (S : Int32) (m : Nat) : Nat := fb_sm (fun a => if bt S a then pc32 (f a &&& (S ^^^ (-1))) else 0) m
theorem hls_skip {f : Nat → Int32} {S : Int32} {j m : Nat} (h : j ≤ m) (h0 : ∀ k, j ≤ k → k < m → bt S k = false) : hls f S m = hls f S j := sm_cutoff h fun k h1 h2 => by rw [h0 k h1 h2]; rfl
theorem hls_bd (f : Nat → Int32) (S : Int32) (m : Nat) : hls f S m ≤ m * 32 := fb_sm_bound fun k _ => by
  show (if _ then _ else _) ≤ 32
  split
  · exact pc32_le _
  · omega
def hbx (o : Option Nat) (v : Nat) : Option Nat := match o with
  | none => some v
  | some b => if v < b then some v else some b
def hva (n : Nat) (f : Nat → Int32) : Nat → Option Nat
  | 0 => none
  | s + 1 => if pc32 (nI s) = n / 2 then hbx (hva n f s) (hls f (nI s) n) else hva n f s
theorem hva_y {n : Nat} {f : Nat → Int32} {s : Nat} (h : pc32 (nI s) = n / 2) : hva n f (s + 1) = hbx (hva n f s) (hls f (nI s) n) := if_pos h
theorem hva_n {n : Nat} {f : Nat → Int32} {s : Nat} (h : ¬ pc32 (nI s) = n / 2) : hva n f (s + 1) = hva n f s := if_neg h
theorem bits_in {n s : Nat} (h : s < 2 ^ n) {i : Nat} (hi : n ≤ i) : bt (nI s) i = false := by
  rcases Nat.lt_or_ge i 32 with q | q
  · rw [bt_nI q]
    exact Nat.testBit_lt_two_pow (Nat.lt_of_lt_of_le h (Nat.pow_le_pow_right (by decide) hi))
  · exact b_big q
theorem hls_56 {n d : Nat} {f : Nat → Int32} {s : Nat} (h : nok n d f) (hn : n ≤ 14) (hs : s < 2 ^ n) (hp : pc32 (nI s) = n / 2) : hls f (nI s) n ≤ 56 := by
  have h1 : hls f (nI s) n ≤ fb_sm (fun a => 8 * (if bt (nI s) a then 1 else 0)) n := fb_sm_le fun a ha => by
    cases q : bt (nI s) a
    · exact Nat.le_refl _
    · have h2 : pc32 (f a &&& (nI s ^^^ (-1))) ≤ pc32 (f a) := fb_ct_sub fun i _ hi => by rw [b_and] at hi; simp only [Bool.and_eq_true] at hi; exact hi.1
      have := h.deg ha
      have := h.d8
      show pc32 (f a &&& (nI s ^^^ (-1))) ≤ 8 * 1
      omega
  rw [sm_mul, fb_sm_ct] at h1
  have h2 : fb_ct (bt (nI s)) n = n / 2 := by
    rw [← hp]
    exact (pc32_n (by omega) (fun b hb => bits_in hs hb)).symm
  have h3 : fb_ct (fun k => bt (nI s) k) n = n / 2 := h2
  omega
theorem hva_lt {n d : Nat} {f : Nat → Int32} (h : nok n d f) (hn : n ≤ 14) : ∀ s, s ≤ 2 ^ n → ∀ v, hva n f s = some v → v ≤ 56
  | 0, _, v, q => by cases q
  | s + 1, hs, v, q => by
    have ih := hva_lt h hn s (by omega)
    by_cases hp : pc32 (nI s) = n / 2
    · rw [hva_y hp] at q
      have h5 := hls_56 h hn (show s < 2 ^ n by omega) hp
      cases ho : hva n f s with
      | none => rw [ho] at q; cases q; exact h5
      | some b =>
        rw [ho] at q
        have hb := ih b ho
        unfold hbx at q
        simp only at q
        split at q <;> cases q <;> omega
    · rw [hva_n hp] at q; exact ih v q
theorem hva_some {n : Nat} {f : Nat → Int32} {s0 : Nat} (hp : pc32 (nI s0) = n / 2) : ∀ s, s0 < s → ∃ v, hva n f s = some v
  | 0, h => by omega
  | s + 1, h => by
    by_cases q : pc32 (nI s) = n / 2
    · rw [hva_y q]
      cases hva n f s with
      | none => exact ⟨_, rfl⟩
      | some b =>
        unfold hbx
        simp only
        split
        · exact ⟨_, rfl⟩
        · exact ⟨_, rfl⟩
    · rw [hva_n q]
      by_cases e : s0 = s
      · subst e; exact absurd hp q
      · exact hva_some hp s (by omega)
theorem hva_end {n : Nat} {f : Nat → Int32} (h1 : 1 ≤ n) (hn : n ≤ 14) : ∃ v, hva n f (2 ^ n) = some v := by
  refine hva_some (s0 := 2 ^ (n / 2) - 1) ?_ _ ?_
  · exact (by decide +kernel : ∀ k, k < 8 → pc32 (nI (2 ^ k - 1)) = k) (n / 2) (by omega)
  · have h2 : 2 ^ (n / 2) ≤ 2 ^ n := Nat.pow_le_pow_right (by decide) (by omega)
    have h3 : 0 < 2 ^ (n / 2) := Nat.two_pow_pos _
    omega
theorem hbx_1 {o : Option Nat} {v : Nat} (ho : ∀ b, o = some b → b < 2 ^ 31) (e : dI o = -1) : hbx o v = some v := by
  rw [dI_no ho] at e; rw [e]; rfl
theorem hbx_2 {o : Option Nat} {v : Nat} (ho : ∀ b, o = some b → b < 2 ^ 31) (hv : v < 2 ^ 31) (e : ¬ dI o = -1) (h : dI o ≤ nI v) : hbx o v = o := by
  cases o with
  | none => exact absurd rfl e
  | some b =>
    have h2 : nI b ≤ nI v := h
    exact if_neg fun q => Int32.not_le.mpr ((nI_ltI hv (ho b rfl)).mpr q) h2
theorem hbx_3 {o : Option Nat} {v : Nat} (ho : ∀ b, o = some b → b < 2 ^ 31) (hv : v < 2 ^ 31) (e : ¬ dI o = -1) (h : ¬ dI o ≤ nI v) : hbx o v = some v := by
  cases o with
  | none => exact absurd rfl e
  | some b =>
    have h2 : ¬ nI b ≤ nI v := h
    exact if_pos ((nI_ltI hv (ho b rfl)).mp (Int32.not_le.mp h2))
def hbm (o : Option Nat) : Nat := match o with
  | none => 99
  | some b => b
theorem hbm_x {o : Option Nat} {v : Nat} (hv : v ≤ 56) : (v < hbm o → hbm (hbx o v) = v) ∧ (hbm o ≤ v → hbm (hbx o v) = hbm o) := by
  cases o with
  | none => exact ⟨fun _ => rfl, fun h => by have : 99 ≤ v := h; omega⟩
  | some b =>
    constructor
    · intro h
      have h2 : v < b := h
      show hbm (if v < b then some v else some b) = v
      rw [if_pos h2]; rfl
    · intro h
      have h2 : b ≤ v := h
      show hbm (if v < b then some v else some b) = b
      rw [if_neg (by omega)]; rfl
theorem c_phalves (P : zPt) (t : Nat) (fp : Int32) (j n d : Nat) (f : Nat → Int32) (hj : j < 8) (h : nok n d f) (hn : n ≤ 14) (hP : P j = some (nI n, nI d, f)) : zCtr yX1_halves cX1_halves 7 (some .int) 8 3 18 [zr 1 0, zi (nI j)] (xH P t fp) (fun r w => r = some (zi (dI (hva n f (2 ^ n)))) ∧ w = xH P t fp) zNx := by
  refine z_start (by decide) [some (zr 1 0), some (zi (nI j)), none, none, none, none, none] rfl (fun _ => Nat.le_of_ble_eq_true rfl) (fun _ => rfl) (fun X F E hno hin => ?_)
  have hp : 2 ^ n ≤ 16384 := Nat.pow_le_pow_right (n := 2) (by decide) hn
  have hp0 : 0 < 2 ^ n := Nat.two_pow_pos _
  have inner : ∀ (s : Nat), s < 2 ^ n → ∀ (bo : Int32), (∀ o, Z X [some (zr 1 0), some (zi (nI j)), some (zr 22 0), some (zi bo), some (zi (nI s)), some (zi (nI (hls f (nI s) n))), o] [] [zPl (zput (pR P) j (zr 22 0)) (zput P j none), xO t fp, zH, zH, zH, zH, zH, zH, zH, zH, zH, zH, zH, zH, zH, zH, zH, zH, zH, zH, zH, zH, zO 5 [zi (nI n), zi (nI d), zr 23 0], zAi 0 24 f] 1 6 95) →
      ∀ (m : Nat) (y : Int32) (q : Nat), pc32 y < m → q ≤ n → upto (nI s) q y → Z X [some (zr 1 0), some (zi (nI j)), some (zr 22 0), some (zi bo), some (zi (nI s)), some (zi (nI (hls f (nI s) q))), some (zi y)] [] [zPl (zput (pR P) j (zr 22 0)) (zput P j none), xO t fp, zH, zH, zH, zH, zH, zH, zH, zH, zH, zH, zH, zH, zH, zH, zH, zH, zH, zH, zH, zH, zO 5 [zi (nI n), zi (nI d), zr 23 0], zAi 0 24 f] 1 6 55 := by
    intro s hs bo kk m
    induction m with
    | zero => intro y q hm; omega
    | succ m ih =>
      intro y q hm hq hu
      refine z_iload F dX1_halves_55 rfl ?_
      refine z_if_eq F (tgt := 95) dX1_halves_57 (by decide) (fun c_57 => ?_) (fun c_57 => ?_)
      · subst c_57
        have e1 := hls_skip (f := f) hq (fun k a b => upto_end hu k a (by omega))
        rw [← e1]
        exact kk _
      · obtain ⟨i, hi, hji, hS, hSk, hy1, hy0, hu2, hpc⟩ := upto_low hu c_57
        have hin : i < n := Nat.lt_of_not_le fun z => by rw [bits_in hs z] at hS; cases hS
        have e1 : hls f (nI s) (i + 1) = hls f (nI s) q + pc32 (f i &&& (nI s ^^^ (-1))) := by
          rw [← hls_skip (f := f) hji (fun k a b => hSk k a b)]
          show fb_sm _ i + (if bt (nI s) i then _ else _) = _
          rw [hS]; rfl
        refine z_iload F dX1_halves_60 rfl ?_
        refine z_aload_n F dX1_halves_62 rfl ?_
        refine z_getN F zC5 (f := 2) rfl (Nat.le_of_ble_eq_true rfl) q256 rfl dX1_halves_63 ?_
        refine z_iload F dX1_halves_66 rfl ?_
        refine z_callS F (c_ntz y i hi hy1 hy0) 1 rfl (lw_S q1219 q808 q123 q809) (by decide +kernel) ⟨Nat.le_of_ble_eq_true rfl, Nat.le_of_ble_eq_true rfl⟩ ⟨by omega, by omega⟩ [0] 24 ⟨rfl, rfl, rfl, ⟨Or.inl rfl, trivial⟩⟩ (fun h => nomatch h) (Nat.le_of_ble_eq_true rfl) ⟨⟨Or.inr (by first | exact ⟨rfl, pR_B _ (by decide)⟩ | exact ⟨rfl, uR_B (by decide) (by decide)⟩), Or.inr rfl, Or.inr trivial, Or.inr trivial, Or.inr trivial, Or.inr trivial, Or.inr trivial, Or.inr trivial, Or.inr trivial, Or.inr trivial, Or.inr trivial, Or.inr trivial, Or.inr trivial, Or.inr trivial, Or.inr trivial, Or.inr trivial, Or.inr trivial, Or.inr trivial, Or.inr trivial, Or.inr trivial, Or.inr trivial, Or.inr trivial, Or.inr rfl, Or.inr trivial, trivial⟩, rfl, rfl, rfl, Nat.le_of_ble_eq_true rfl⟩ rfl rfl dX1_halves_68 (fun r_68 w_68 hp => ?_) (fun _ _ h => h.elim)
        obtain ⟨rfl, rfl⟩ := hp
        refine z_weq (w' := [zPl _ _, zO _ [zr _ _, zr _ _, zr _ _, zr _ _, zr _ _, zi _, zi _, zr _ _, zr _ _], zH, zH, zH, zH, zH, zH, zH, zH, zH, zH, zH, zH, zH, zH, zH, zH, zH, zH, zH, zH, zO _ [zi _, zi _, zr _ _], zAi 0 24 _]) rfl ?_
        refine z_seq (S' := zi _ :: _) rfl ?_
        refine z_ialdN F rfl (Nat.le_of_ble_eq_true rfl) (by omega) rfl dX1_halves_71 ?_
        refine z_iload F dX1_halves_72 rfl ?_
        refine z_iconst F (-1) dX1_halves_74 rfl ?_
        refine z_ixor F dX1_halves_75 ?_
        refine z_iand F dX1_halves_76 ?_
        refine z_callS F (c_bitCount (f i &&& (nI s ^^^ (-1)))) 1 rfl (lw_S q1218 q395 q123 q396) (by decide +kernel) ⟨Nat.le_of_ble_eq_true rfl, Nat.le_of_ble_eq_true rfl⟩ ⟨by omega, by omega⟩ [0] 24 ⟨rfl, rfl, rfl, ⟨Or.inl rfl, trivial⟩⟩ (fun h => nomatch h) (Nat.le_of_ble_eq_true rfl) ⟨⟨Or.inr (by first | exact ⟨rfl, pR_B _ (by decide)⟩ | exact ⟨rfl, uR_B (by decide) (by decide)⟩), Or.inr rfl, Or.inr trivial, Or.inr trivial, Or.inr trivial, Or.inr trivial, Or.inr trivial, Or.inr trivial, Or.inr trivial, Or.inr trivial, Or.inr trivial, Or.inr trivial, Or.inr trivial, Or.inr trivial, Or.inr trivial, Or.inr trivial, Or.inr trivial, Or.inr trivial, Or.inr trivial, Or.inr trivial, Or.inr trivial, Or.inr trivial, Or.inr rfl, Or.inr trivial, trivial⟩, rfl, rfl, rfl, Nat.le_of_ble_eq_true rfl⟩ rfl rfl dX1_halves_77 (fun r_77 w_77 hp => ?_) (fun _ _ h => h.elim)
        obtain ⟨rfl, rfl⟩ := hp
        refine z_weq (w' := [zPl _ _, zO _ [zr _ _, zr _ _, zr _ _, zr _ _, zr _ _, zi _, zi _, zr _ _, zr _ _], zH, zH, zH, zH, zH, zH, zH, zH, zH, zH, zH, zH, zH, zH, zH, zH, zH, zH, zH, zH, zO _ [zi _, zi _, zr _ _], zAi 0 24 _]) rfl ?_
        refine z_seq (S' := zi _ :: _) rfl ?_
        refine z_iaddN F dX1_halves_80 ?_
        refine z_ieq (show _ = nI (hls f (nI s) (i + 1)) from by rw [e1]) ?_
        refine z_istore F dX1_halves_81 (Nat.le_of_ble_eq_true rfl) ?_
        refine z_leq (L' := [_, _, _, _, _, _, _]) rfl ?_
        refine z_iload F dX1_halves_83 rfl ?_
        refine z_iload F dX1_halves_85 rfl ?_
        refine z_iconst F (nI 1) dX1_halves_87 rfl ?_
        refine z_isub F dX1_halves_88 ?_
        refine z_iand F dX1_halves_89 ?_
        refine z_istore F dX1_halves_90 (Nat.le_of_ble_eq_true rfl) ?_
        refine z_leq (L' := [_, _, _, _, _, _, _]) rfl ?_
        refine z_goto F (tgt := 55) dX1_halves_92 (by decide) ?_
        exact ih _ (i + 1) (by omega) (by omega) hu2
  have outer : ∀ (m s : Nat), 2 ^ n - s < m → s ≤ 2 ^ n → Z X [some (zr 1 0), some (zi (nI j)), some (zr 22 0), some (zi (dI (hva n f s))), some (zi (nI s)), none, none] [] [zPl (zput (pR P) j (zr 22 0)) (zput P j none), xO t fp, zH, zH, zH, zH, zH, zH, zH, zH, zH, zH, zH, zH, zH, zH, zH, zH, zH, zH, zH, zH, zO 5 [zi (nI n), zi (nI d), zr 23 0], zAi 0 24 f] 1 6 22 := by
    intro m
    induction m with
    | zero => intro s hm; omega
    | succ m ih =>
      intro s hm hs
      have hps := pc32_le (nI s)
      have hb := hls_bd f (nI s) n
      have ho : ∀ b, hva n f s = some b → b < 2 ^ 31 := fun b q => by have := hva_lt h hn s hs b q; omega
      have back : pc32 (nI s) = n / 2 → s < 2 ^ n → ∀ o, Z X [some (zr 1 0), some (zi (nI j)), some (zr 22 0), some (zi (dI (hva n f s))), some (zi (nI s)), some (zi (nI (hls f (nI s) n))), o] [] [zPl (zput (pR P) j (zr 22 0)) (zput P j none), xO t fp, zH, zH, zH, zH, zH, zH, zH, zH, zH, zH, zH, zH, zH, zH, zH, zH, zH, zH, zH, zH, zO 5 [zi (nI n), zi (nI d), zr 23 0], zAi 0 24 f] 1 6 95 := by
        intro hpc hlt o
        have hh := ih (s + 1) (by omega) (by omega)
        rw [hva_y hpc] at hh
        refine z_iload_n F dX1_halves_95 rfl ?_
        refine z_iconst F (-1) dX1_halves_96 rfl ?_
        refine z_icmp_eq F (tgt := 106) dX1_halves_97 (by decide) (fun c_97 => ?_) (fun c_97 => ?_)
        · refine z_iload F dX1_halves_106 rfl ?_
          refine z_istore_n F dX1_halves_108 (Nat.le_of_ble_eq_true rfl) ?_
          refine z_leq (L' := [_, _, _, _, _, _, _]) rfl ?_
          refine z_iincN F 1 dX1_halves_109 rfl rfl ?_
          refine z_leq (L' := [_, _, _, _, _, _, _]) rfl ?_
          refine z_goto F (tgt := 22) dX1_halves_112 (by decide) ?_
          rw [hbx_1 ho c_97] at hh
          refine z_loc _ ?_ hh
          exact ⟨rfl, rfl, rfl, rfl, rfl, trivial⟩
        · refine z_iload F dX1_halves_100 rfl ?_
          refine z_iload_n F dX1_halves_102 rfl ?_
          refine z_icmp_ge F (tgt := 109) dX1_halves_103 (by decide) (fun c_103 => ?_) (fun c_103 => ?_)
          · refine z_iincN F 1 dX1_halves_109 rfl rfl ?_
            refine z_leq (L' := [_, _, _, _, _, _, _]) rfl ?_
            refine z_goto F (tgt := 22) dX1_halves_112 (by decide) ?_
            rw [hbx_2 ho (by omega) c_97 c_103] at hh
            refine z_loc _ ?_ hh
            exact ⟨rfl, rfl, rfl, rfl, rfl, trivial⟩
          · refine z_iload F dX1_halves_106 rfl ?_
            refine z_istore_n F dX1_halves_108 (Nat.le_of_ble_eq_true rfl) ?_
            refine z_leq (L' := [_, _, _, _, _, _, _]) rfl ?_
            refine z_iincN F 1 dX1_halves_109 rfl rfl ?_
            refine z_leq (L' := [_, _, _, _, _, _, _]) rfl ?_
            refine z_goto F (tgt := 22) dX1_halves_112 (by decide) ?_
            rw [hbx_3 ho (by omega) c_97 c_103] at hh
            refine z_loc _ ?_ hh
            exact ⟨rfl, rfl, rfl, rfl, rfl, trivial⟩
      refine z_iload F dX1_halves_22 rfl ?_
      refine z_aload_n F dX1_halves_24 rfl ?_
      refine z_callV F (c_all n (nI d) (by omega)) 0 rfl (lw_V q822 q800 q801 q116 q802) (by decide +kernel) ⟨Nat.le_of_ble_eq_true rfl, Nat.le_of_ble_eq_true rfl⟩ ⟨by omega, by omega⟩ [0, 22, 23] 24 ⟨rfl, rfl, rfl, ⟨Or.inl rfl, Or.inr rfl, Or.inl rfl, trivial⟩⟩ (fun h => nomatch h) (Nat.le_of_ble_eq_true rfl) ⟨⟨Or.inr (by first | exact ⟨rfl, pR_B _ (by decide)⟩ | exact ⟨rfl, uR_B (by decide) (by decide)⟩), Or.inr rfl, Or.inr trivial, Or.inr trivial, Or.inr trivial, Or.inr trivial, Or.inr trivial, Or.inr trivial, Or.inr trivial, Or.inr trivial, Or.inr trivial, Or.inr trivial, Or.inr trivial, Or.inr trivial, Or.inr trivial, Or.inr trivial, Or.inr trivial, Or.inr trivial, Or.inr trivial, Or.inr trivial, Or.inr trivial, Or.inr trivial, Or.inl rfl, Or.inr trivial, trivial⟩, rfl, rfl, rfl, Nat.le_of_ble_eq_true rfl⟩ rfl zC5 rfl rfl dX1_halves_25 (fun r_25 w_25 hp => ?_) (fun _ _ h => h.elim)
      obtain ⟨rfl, rfl⟩ := hp
      rw [al_nI (show n ≤ 24 by omega)]
      refine z_weq (w' := [zPl _ _, zO _ [zr _ _, zr _ _, zr _ _, zr _ _, zr _ _, zi _, zi _, zr _ _, zr _ _], zH, zH, zH, zH, zH, zH, zH, zH, zH, zH, zH, zH, zH, zH, zH, zH, zH, zH, zH, zH, zO _ [zi _, zi _, zr _ _], zAi 0 24 _]) rfl ?_
      refine z_seq (S' := zi _ :: _) rfl ?_
      refine z_icmp_gtN F (by omega) (by omega) (tgt := 115) dX1_halves_28 (by decide) (fun c_28 => ?_) (fun c_28 => ?_)
      · have es : s = 2 ^ n := by omega
        refine z_iload_n F dX1_halves_115 rfl ?_
        refine z_loc [some _, some _, none, some _, some _, none, none] ⟨rfl, rfl, rfl, rfl, trivial⟩ ?_
        refine z_unfocus F rfl j 22 23 22 hj zput_self rfl rfl (Nat.le_of_ble_eq_true rfl) (Nat.le_of_ble_eq_true rfl) (Nat.le_of_ble_eq_true rfl) (Nat.le_of_ble_eq_true rfl) [zO _ [zr _ _, zr _ _, zr _ _, zr _ _, zr _ _, zi _, zi _, zr _ _, zr _ _], zH, zH, zH, zH, zH, zH, zH, zH, zH, zH, zH, zH, zH, zH, zH, zH, zH, zH, zH, zH] rfl ⟨rfl, trivial, trivial, trivial, trivial, trivial, trivial, trivial, trivial, trivial, trivial, trivial, trivial, trivial, trivial, trivial, trivial, trivial, trivial, trivial, trivial, trivial⟩ uOK rfl rfl ?_
        refine z_weq (w' := zPl (pR (zput P j (some _))) (zput P j (some _)) :: _) (congrArg (fun z => z :: _) uPl2) ?_
        exact z_iret F E rfl dX1_halves_116 (by omega) (by omega) (⟨by rw [es], by rw [zput_some hP]⟩)
      · refine z_iload F dX1_halves_31 rfl ?_
        refine z_callS F (c_bitCount (nI s)) 1 rfl (lw_S q1218 q395 q123 q396) (by decide +kernel) ⟨Nat.le_of_ble_eq_true rfl, Nat.le_of_ble_eq_true rfl⟩ ⟨by omega, by omega⟩ [0] 24 ⟨rfl, rfl, rfl, ⟨Or.inl rfl, trivial⟩⟩ (fun h => nomatch h) (Nat.le_of_ble_eq_true rfl) ⟨⟨Or.inr (by first | exact ⟨rfl, pR_B _ (by decide)⟩ | exact ⟨rfl, uR_B (by decide) (by decide)⟩), Or.inr rfl, Or.inr trivial, Or.inr trivial, Or.inr trivial, Or.inr trivial, Or.inr trivial, Or.inr trivial, Or.inr trivial, Or.inr trivial, Or.inr trivial, Or.inr trivial, Or.inr trivial, Or.inr trivial, Or.inr trivial, Or.inr trivial, Or.inr trivial, Or.inr trivial, Or.inr trivial, Or.inr trivial, Or.inr trivial, Or.inr trivial, Or.inr rfl, Or.inr trivial, trivial⟩, rfl, rfl, rfl, Nat.le_of_ble_eq_true rfl⟩ rfl rfl dX1_halves_33 (fun r_33 w_33 hp => ?_) (fun _ _ h => h.elim)
        obtain ⟨rfl, rfl⟩ := hp
        refine z_weq (w' := [zPl _ _, zO _ [zr _ _, zr _ _, zr _ _, zr _ _, zr _ _, zi _, zi _, zr _ _, zr _ _], zH, zH, zH, zH, zH, zH, zH, zH, zH, zH, zH, zH, zH, zH, zH, zH, zH, zH, zH, zH, zO _ [zi _, zi _, zr _ _], zAi 0 24 _]) rfl ?_
        refine z_seq (S' := zi _ :: _) rfl ?_
        refine z_aload_n F dX1_halves_36 rfl ?_
        refine z_getN F zC5 (f := 0) rfl (Nat.le_of_ble_eq_true rfl) q245 rfl dX1_halves_37 ?_
        refine z_iconst F (nI 2) dX1_halves_40 rfl ?_
        refine z_idivN F (by omega) (by omega) (by omega) dX1_halves_41 ?_
        refine z_icmp_eqN F (by omega) (by omega) (tgt := 48) dX1_halves_42 (by decide) (fun c_42 => ?_) (fun c_42 => ?_)
        · refine z_iconst F (nI 0) dX1_halves_48 rfl ?_
          refine z_istore F dX1_halves_49 (Nat.le_of_ble_eq_true rfl) ?_
          refine z_leq (L' := [_, _, _, _, _, _, _]) rfl ?_
          refine z_iload F dX1_halves_51 rfl ?_
          refine z_istore F dX1_halves_53 (Nat.le_of_ble_eq_true rfl) ?_
          refine z_leq (L' := [_, _, _, _, _, _, _]) rfl ?_
          exact inner s (by omega) _ (back c_42 (by omega)) _ (nI s) 0 (Nat.lt_succ_self _) (by omega) (upto_0 _)
        · refine z_goto F (tgt := 109) dX1_halves_45 (by decide) ?_
          refine z_iincN F 1 dX1_halves_109 rfl rfl ?_
          refine z_leq (L' := [_, _, _, _, _, _, _]) rfl ?_
          refine z_goto F (tgt := 22) dX1_halves_112 (by decide) ?_
          have hh := ih (s + 1) (by omega) (by omega)
          rw [hva_n c_42] at hh
          refine z_loc _ ?_ hh
          exact ⟨rfl, rfl, rfl, rfl, rfl, trivial⟩
  refine z_aload_n F dX1_halves_0 rfl ?_
  refine z_iload_n F dX1_halves_1 rfl ?_
  refine z_callV F (c_netAt_ok P t fp j hj hP) 1 rfl (lw_V q429 q431 qs0 q109 q432) (by decide +kernel) ⟨Nat.le_of_ble_eq_true rfl, Nat.le_of_ble_eq_true rfl⟩ ⟨by omega, by omega⟩ [0, 1, 2, 3, 4, 5, 6, 7, 8, 9, 10, 11, 12, 13, 14, 15, 16, 17, 18, 19, 20, 21] 22 ⟨rfl, rfl, rfl, ⟨Or.inr (congrArg some (zrnP rfl).symm), Or.inr rfl, Or.inl rfl, Or.inl rfl, Or.inl rfl, Or.inl rfl, Or.inl rfl, Or.inl rfl, Or.inl rfl, Or.inl rfl, Or.inl rfl, Or.inl rfl, Or.inl rfl, Or.inl rfl, Or.inl rfl, Or.inl rfl, Or.inl rfl, Or.inl rfl, Or.inl rfl, Or.inl rfl, Or.inl rfl, Or.inl rfl, trivial⟩⟩ (fun _ => rfl) (Nat.le_of_ble_eq_true rfl) ⟨⟨Or.inl rfl, Or.inl rfl, Or.inr trivial, Or.inr trivial, Or.inr trivial, Or.inr trivial, Or.inr trivial, Or.inr trivial, Or.inr trivial, Or.inr trivial, Or.inr trivial, Or.inr trivial, Or.inr trivial, Or.inr trivial, Or.inr trivial, Or.inr trivial, Or.inr trivial, Or.inr trivial, Or.inr trivial, Or.inr trivial, Or.inr trivial, Or.inr trivial, trivial⟩, rfl, rfl, rfl, Nat.le_of_ble_eq_true rfl⟩ rfl zC1 rfl rfl dX1_halves_2 (fun r_2 w_2 hp => ?_) (fun _ _ h => h.elim)
  obtain ⟨rfl, rfl⟩ := hp
  refine z_weq (w' := zPl (pR _) _ :: _) (congrArg (fun z => z :: _) (zrnP rfl)) ?_
  refine z_weq (w' := [zPl _ _, zO _ [zr _ _, zr _ _, zr _ _, zr _ _, zr _ _, zi _, zi _, zr _ _, zr _ _], zH, zH, zH, zH, zH, zH, zH, zH, zH, zH, zH, zH, zH, zH, zH, zH, zH, zH, zH, zH]) rfl ?_
  refine z_seq (S' := zr _ _ :: _) rfl ?_
  refine z_astore_n F dX1_halves_5 (Nat.le_of_ble_eq_true rfl) ?_
  refine z_leq (L' := [_, _, _, _, _, _, _]) rfl ?_
  refine z_foc F j hj hP (N := 22) (M := 23) (L' := [_, _, some (zr 22 0), _, _, _, _]) (S' := []) rfl rfl (Nat.le_of_ble_eq_true rfl) ⟨rfl, trivial, trivial, trivial, trivial, trivial, trivial, trivial, trivial, trivial, trivial, trivial, trivial, trivial, trivial, trivial, trivial, trivial, trivial, trivial, trivial, trivial⟩ ⟨Or.inl rfl, Or.inl rfl, Or.inr ⟨rfl, rfl⟩, Or.inl rfl, Or.inl rfl, Or.inl rfl, Or.inl rfl, trivial⟩ rfl trivial rfl ?_
  refine z_weq (w' := [zPl _ _, zO _ [zr _ _, zr _ _, zr _ _, zr _ _, zr _ _, zi _, zi _, zr _ _, zr _ _], zH, zH, zH, zH, zH, zH, zH, zH, zH, zH, zH, zH, zH, zH, zH, zH, zH, zH, zH, zH, zO _ [zi _, zi _, zr _ _], zAi 0 24 _]) rfl ?_
  refine z_aload_n F dX1_halves_6 rfl ?_
  refine z_getN F zC5 (f := 0) rfl (Nat.le_of_ble_eq_true rfl) q245 rfl dX1_halves_7 ?_
  refine z_bipush F (nI 14) dX1_halves_10 rfl ?_
  refine z_icmp_leN F (by omega) (by omega) (tgt := 17) dX1_halves_12 (by decide) (fun c_12 => ?_) (fun c_12 => ?_)
  · refine z_iconst F (-1) dX1_halves_17 rfl ?_
    refine z_istore_n F dX1_halves_18 (Nat.le_of_ble_eq_true rfl) ?_
    refine z_leq (L' := [_, _, _, _, _, _, _]) rfl ?_
    refine z_iconst F (nI 0) dX1_halves_19 rfl ?_
    refine z_istore F dX1_halves_20 (Nat.le_of_ble_eq_true rfl) ?_
    refine z_leq (L' := [_, _, _, _, _, _, _]) rfl ?_
    exact outer _ 0 (Nat.lt_succ_self _) (by omega)
  · exact absurd c_12 (by omega)
theorem c_phalves_big (P : zPt) (t : Nat) (fp : Int32) (j n d : Nat) (f : Nat → Int32) (hj : j < 8) (h : nok n d f) (hn : 14 < n) (hP : P j = some (nI n, nI d, f)) : zCtr yX1_halves cX1_halves 7 (some .int) 8 3 18 [zr 1 0, zi (nI j)] (xH P t fp) (fun r w => r = some (zi (-1)) ∧ w = xH P t fp) zNx := by
  refine z_start (by decide) [some (zr 1 0), some (zi (nI j)), none, none, none, none, none] rfl (fun _ => Nat.le_of_ble_eq_true rfl) (fun _ => rfl) (fun X F E hno hin => ?_)
  have h24 := h.n24
  refine z_aload_n F dX1_halves_0 rfl ?_
  refine z_iload_n F dX1_halves_1 rfl ?_
  refine z_callV F (c_netAt_ok P t fp j hj hP) 1 rfl (lw_V q429 q431 qs0 q109 q432) (by decide +kernel) ⟨Nat.le_of_ble_eq_true rfl, Nat.le_of_ble_eq_true rfl⟩ ⟨by omega, by omega⟩ [0, 1, 2, 3, 4, 5, 6, 7, 8, 9, 10, 11, 12, 13, 14, 15, 16, 17, 18, 19, 20, 21] 22 ⟨rfl, rfl, rfl, ⟨Or.inr (congrArg some (zrnP rfl).symm), Or.inr rfl, Or.inl rfl, Or.inl rfl, Or.inl rfl, Or.inl rfl, Or.inl rfl, Or.inl rfl, Or.inl rfl, Or.inl rfl, Or.inl rfl, Or.inl rfl, Or.inl rfl, Or.inl rfl, Or.inl rfl, Or.inl rfl, Or.inl rfl, Or.inl rfl, Or.inl rfl, Or.inl rfl, Or.inl rfl, Or.inl rfl, trivial⟩⟩ (fun _ => rfl) (Nat.le_of_ble_eq_true rfl) ⟨⟨Or.inl rfl, Or.inl rfl, Or.inr trivial, Or.inr trivial, Or.inr trivial, Or.inr trivial, Or.inr trivial, Or.inr trivial, Or.inr trivial, Or.inr trivial, Or.inr trivial, Or.inr trivial, Or.inr trivial, Or.inr trivial, Or.inr trivial, Or.inr trivial, Or.inr trivial, Or.inr trivial, Or.inr trivial, Or.inr trivial, Or.inr trivial, Or.inr trivial, trivial⟩, rfl, rfl, rfl, Nat.le_of_ble_eq_true rfl⟩ rfl zC1 rfl rfl dX1_halves_2 (fun r_2 w_2 hp => ?_) (fun _ _ h => h.elim)
  obtain ⟨rfl, rfl⟩ := hp
  refine z_weq (w' := zPl (pR _) _ :: _) (congrArg (fun z => z :: _) (zrnP rfl)) ?_
  refine z_weq (w' := [zPl _ _, zO _ [zr _ _, zr _ _, zr _ _, zr _ _, zr _ _, zi _, zi _, zr _ _, zr _ _], zH, zH, zH, zH, zH, zH, zH, zH, zH, zH, zH, zH, zH, zH, zH, zH, zH, zH, zH, zH]) rfl ?_
  refine z_seq (S' := zr _ _ :: _) rfl ?_
  refine z_astore_n F dX1_halves_5 (Nat.le_of_ble_eq_true rfl) ?_
  refine z_leq (L' := [_, _, _, _, _, _, _]) rfl ?_
  refine z_foc F j hj hP (N := 22) (M := 23) (L' := [_, _, some (zr 22 0), _, _, _, _]) (S' := []) rfl rfl (Nat.le_of_ble_eq_true rfl) ⟨rfl, trivial, trivial, trivial, trivial, trivial, trivial, trivial, trivial, trivial, trivial, trivial, trivial, trivial, trivial, trivial, trivial, trivial, trivial, trivial, trivial, trivial⟩ ⟨Or.inl rfl, Or.inl rfl, Or.inr ⟨rfl, rfl⟩, Or.inl rfl, Or.inl rfl, Or.inl rfl, Or.inl rfl, trivial⟩ rfl trivial rfl ?_
  refine z_weq (w' := [zPl _ _, zO _ [zr _ _, zr _ _, zr _ _, zr _ _, zr _ _, zi _, zi _, zr _ _, zr _ _], zH, zH, zH, zH, zH, zH, zH, zH, zH, zH, zH, zH, zH, zH, zH, zH, zH, zH, zH, zH, zO _ [zi _, zi _, zr _ _], zAi 0 24 _]) rfl ?_
  refine z_aload_n F dX1_halves_6 rfl ?_
  refine z_getN F zC5 (f := 0) rfl (Nat.le_of_ble_eq_true rfl) q245 rfl dX1_halves_7 ?_
  refine z_bipush F (nI 14) dX1_halves_10 rfl ?_
  refine z_icmp_leN F (by omega) (by omega) (tgt := 17) dX1_halves_12 (by decide) (fun c_12 => ?_) (fun c_12 => ?_)
  · exact absurd c_12 (by omega)
  · refine z_iconst F (-1) dX1_halves_15 rfl ?_
    refine z_loc [some _, some _, none, none, none, none, none] ⟨rfl, rfl, trivial⟩ ?_
    refine z_unfocus F rfl j 22 23 22 hj zput_self rfl rfl (Nat.le_of_ble_eq_true rfl) (Nat.le_of_ble_eq_true rfl) (Nat.le_of_ble_eq_true rfl) (Nat.le_of_ble_eq_true rfl) [zO _ [zr _ _, zr _ _, zr _ _, zr _ _, zr _ _, zi _, zi _, zr _ _, zr _ _], zH, zH, zH, zH, zH, zH, zH, zH, zH, zH, zH, zH, zH, zH, zH, zH, zH, zH, zH, zH] rfl ⟨rfl, trivial, trivial, trivial, trivial, trivial, trivial, trivial, trivial, trivial, trivial, trivial, trivial, trivial, trivial, trivial, trivial, trivial, trivial, trivial, trivial, trivial⟩ uOK rfl rfl ?_
    refine z_weq (w' := zPl (pR (zput P j (some _))) (zput P j (some _)) :: _) (congrArg (fun z => z :: _) uPl2) ?_
    exact z_iret F E rfl dX1_halves_16 (by omega) (by omega) (⟨rfl, by rw [zput_some hP]; rfl⟩)
theorem c_mhalves_ok (F0 : Nat → Int32) (G : Nat → Int64) (A : Nat → Nat → Int32) (B : Nat → Nat → Int64) (j n d : Nat) (f : Nat → Int32) (hj : j < 8) (h : nok n d f) (hn : n ≤ 14) (hs : Slt A j n (nI d) f) :
    zCtr yX6_halves cX6_halves 6 (some .int) 2 0 0 [zr 1 0, zi (nI j)] [zH, zG F0 G A B] (fun r w => r = some (zi (dI (hva n f (2 ^ n)))) ∧ ∃ F' A', w = [zH, zG F' G A' B] ∧ F' 0 = nI 0 ∧ frm [0, 4, 5] F0 F' ∧ frm [6] A A') zNx := by
  refine z_start (by decide) [some (zr 1 0), some (zi (nI j)), none, none, none, none] rfl (fun _ => Nat.le_of_ble_eq_true rfl) (fun _ => rfl) (fun X F E hno hin => ?_)
  have h1 := h.n1
  have hp : 2 ^ n ≤ 16384 := Nat.pow_le_pow_right (n := 2) (by decide) hn
  have hp0 : 0 < 2 ^ n := Nat.two_pow_pos _
  have outer : ∀ (F1 : Nat → Int32) (A1 : Nat → Nat → Int32), F1 0 = nI 0 → F1 4 = nI n → frm [0, 4, 5] F0 F1 → frm [6] A A1 → (∀ k, k < 24 → A1 6 k = f k) → ∀ (m s : Nat), 2 ^ n - s < m → s ≤ 2 ^ n → Z X [some (zr 1 0), some (zi (nI j)), some (zi (nI (hbm (hva n f s)))), some (zi (nI s)), none, none] [] [zH, zG F1 G A1 B] 0 0 26 := by
    intro F1 A1 g0 g4 hF hA hf1 m
    induction m with
    | zero => intro s hm; omega
    | succ m ih =>
      intro s hm hs
      have hps := pc32_le (nI s)
      have hbm1 : hbm (hva n f s) ≤ 99 := by
        cases q : hva n f s with
        | none => exact Nat.le_refl _
        | some b => have := hva_lt h hn s hs b q; show b ≤ 99; omega
      have inner : pc32 (nI s) = n / 2 → s < 2 ^ n → ∀ (m2 a : Nat), n - a < m2 → a ≤ n → Z X [some (zr 1 0), some (zi (nI j)), some (zi (nI (hbm (hva n f s)))), some (zi (nI s)), some (zi (nI (hls f (nI s) a))), some (zi (nI a))] [] [zH, zG F1 G A1 B] 0 0 58 := by
        intro hpc hlt m2
        have h56 := hls_56 h hn hlt hpc
        induction m2 with
        | zero => intro a hm; omega
        | succ m2 ih2 =>
          intro a hm2 ha
          have hb := hls_bd f (nI s) a
          have hpa := pc32_le (f a &&& (nI s ^^^ (-1)))
          refine z_iload F dX6_halves_58 rfl ?_
          refine z_aload_n F dX6_halves_60 rfl ?_
          refine z_mi F rfl 4 rfl (Nat.le_of_ble_eq_true rfl) rfl q1484 dX6_halves_61 ?_
          refine z_ieq (g4) ?_
          refine z_icmp_geN F (by omega) (by omega) (tgt := 102) dX6_halves_64 (by decide) (fun c_64 => ?_) (fun c_64 => ?_)
          · have ea : a = n := by omega
            subst ea
            have hh := ih (s + 1) (by omega) (by omega)
            rw [hva_y hpc] at hh
            refine z_iload F dX6_halves_102 rfl ?_
            refine z_iload_n F dX6_halves_104 rfl ?_
            refine z_icmp_geN F (by omega) (by omega) (tgt := 113) dX6_halves_105 (by decide) (fun c_105 => ?_) (fun c_105 => ?_)
            · refine z_iload_n F dX6_halves_113 rfl ?_
              refine z_istore_n F dX6_halves_114 (Nat.le_of_ble_eq_true rfl) ?_
              refine z_leq (L' := [_, _, _, _, _, _]) rfl ?_
              refine z_iincN F 1 dX6_halves_115 rfl rfl ?_
              refine z_leq (L' := [_, _, _, _, _, _]) rfl ?_
              refine z_goto F (tgt := 26) dX6_halves_118 (by decide) ?_
              rw [(hbm_x h56).2 c_105] at hh
              refine z_loc _ ?_ hh
              exact ⟨rfl, rfl, rfl, rfl, trivial⟩
            · refine z_iload F dX6_halves_108 rfl ?_
              refine z_goto F (tgt := 114) dX6_halves_110 (by decide) ?_
              refine z_istore_n F dX6_halves_114 (Nat.le_of_ble_eq_true rfl) ?_
              refine z_leq (L' := [_, _, _, _, _, _]) rfl ?_
              refine z_iincN F 1 dX6_halves_115 rfl rfl ?_
              refine z_leq (L' := [_, _, _, _, _, _]) rfl ?_
              refine z_goto F (tgt := 26) dX6_halves_118 (by decide) ?_
              rw [(hbm_x h56).1 c_105] at hh
              refine z_loc _ ?_ hh
              exact ⟨rfl, rfl, rfl, rfl, trivial⟩
          · refine z_iload_n F dX6_halves_67 rfl ?_
            refine z_iload F dX6_halves_68 rfl ?_
            refine z_ishr F dX6_halves_70 ?_
            refine z_iconst F (nI 1) dX6_halves_71 rfl ?_
            refine z_iandB F (by omega) dX6_halves_72 ?_
            refine z_iconst F (nI 1) dX6_halves_73 rfl ?_
            refine z_icmp_neB F (tgt := 96) dX6_halves_74 (by decide) (fun c_74 => ?_) (fun c_74 => ?_)
            · refine z_iincN F 1 dX6_halves_96 rfl rfl ?_
              refine z_leq (L' := [_, _, _, _, _, _]) rfl ?_
              refine z_goto F (tgt := 58) dX6_halves_99 (by decide) ?_
              have e : hls f (nI s) (a + 1) = hls f (nI s) a := by
                show fb_sm _ a + (if bt (nI s) a then _ else _) = _
                rw [c_74]; rfl
              have hh := ih2 (a + 1) (by omega) (by omega)
              rw [e] at hh
              exact hh
            · refine z_iload F dX6_halves_77 rfl ?_
              refine z_aload_n F dX6_halves_79 rfl ?_
              refine z_ma F rfl 6 rfl (Nat.le_of_ble_eq_true rfl) rfl q1486 dX6_halves_80 ?_
              refine z_iload F dX6_halves_83 rfl ?_
              refine z_ialdGN F rfl rfl (Nat.le_of_ble_eq_true rfl) (by omega) rfl dX6_halves_85 ?_
              refine z_ieq (hf1 a (by omega)) ?_
              refine z_iload_n F dX6_halves_86 rfl ?_
              refine z_iconst F (-1) dX6_halves_87 rfl ?_
              refine z_ixor F dX6_halves_88 ?_
              refine z_iand F dX6_halves_89 ?_
              refine z_callS F (c_bits (f a &&& (nI s ^^^ (-1)))) 1 rfl (lw_S q1752 q1753 q117 q1754) (by decide +kernel) ⟨Nat.le_of_ble_eq_true rfl, Nat.le_of_ble_eq_true rfl⟩ ⟨by omega, by omega⟩ [0] 2 ⟨rfl, rfl, rfl, ⟨Or.inl rfl, trivial⟩⟩ (fun h => nomatch h) (Nat.le_of_ble_eq_true rfl) ⟨⟨Or.inr trivial, Or.inr trivial, trivial⟩, rfl, rfl, rfl, Nat.le_of_ble_eq_true rfl⟩ rfl rfl dX6_halves_90 (fun r_90 w_90 hp => ?_) (fun _ _ h => h.elim)
              obtain ⟨rfl, rfl⟩ := hp
              refine z_weq (w' := [zH, zG _ _ _ _]) rfl ?_
              refine z_seq (S' := zi _ :: _) rfl ?_
              refine z_iaddN F dX6_halves_93 ?_
              refine z_istore F dX6_halves_94 (Nat.le_of_ble_eq_true rfl) ?_
              refine z_leq (L' := [_, _, _, _, _, _]) rfl ?_
              refine z_iincN F 1 dX6_halves_96 rfl rfl ?_
              refine z_leq (L' := [_, _, _, _, _, _]) rfl ?_
              refine z_goto F (tgt := 58) dX6_halves_99 (by decide) ?_
              have e : hls f (nI s) (a + 1) = hls f (nI s) a + pc32 (f a &&& (nI s ^^^ (-1))) := by
                show fb_sm _ a + (if bt (nI s) a then _ else _) = _
                rw [c_74]; rfl
              have hh := ih2 (a + 1) (by omega) (by omega)
              rw [e] at hh
              exact hh
      refine z_iload_n F dX6_halves_26 rfl ?_
      refine z_iconst F (nI 1) dX6_halves_27 rfl ?_
      refine z_aload_n F dX6_halves_28 rfl ?_
      refine z_mi F rfl 4 rfl (Nat.le_of_ble_eq_true rfl) rfl q1484 dX6_halves_29 ?_
      refine z_ieq (g4) ?_
      refine z_ishl F dX6_halves_32 ?_
      refine z_ieq (b1_nI (show n ≤ 24 by omega)) ?_
      refine z_icmp_geN F (by omega) (by omega) (tgt := 121) dX6_halves_33 (by decide) (fun c_33 => ?_) (fun c_33 => ?_)
      · have es : s = 2 ^ n := by omega
        obtain ⟨v, hv⟩ := hva_end (f := f) h1 hn
        refine z_iload_n F dX6_halves_121 rfl ?_
        exact z_iret F E rfl dX6_halves_122 (by omega) (by omega) (⟨by rw [es, hv]; rfl, F1, A1, rfl, g0, hF, hA⟩)
      · refine z_iload_n F dX6_halves_36 rfl ?_
        refine z_callS F (c_bits (nI s)) 1 rfl (lw_S q1752 q1753 q117 q1754) (by decide +kernel) ⟨Nat.le_of_ble_eq_true rfl, Nat.le_of_ble_eq_true rfl⟩ ⟨by omega, by omega⟩ [0] 2 ⟨rfl, rfl, rfl, ⟨Or.inl rfl, trivial⟩⟩ (fun h => nomatch h) (Nat.le_of_ble_eq_true rfl) ⟨⟨Or.inr trivial, Or.inr trivial, trivial⟩, rfl, rfl, rfl, Nat.le_of_ble_eq_true rfl⟩ rfl rfl dX6_halves_37 (fun r_37 w_37 hp => ?_) (fun _ _ h => h.elim)
        obtain ⟨rfl, rfl⟩ := hp
        refine z_weq (w' := [zH, zG _ _ _ _]) rfl ?_
        refine z_seq (S' := zi _ :: _) rfl ?_
        refine z_aload_n F dX6_halves_40 rfl ?_
        refine z_mi F rfl 4 rfl (Nat.le_of_ble_eq_true rfl) rfl q1484 dX6_halves_41 ?_
        refine z_ieq (g4) ?_
        refine z_iconst F (nI 2) dX6_halves_44 rfl ?_
        refine z_idivN F (by omega) (by omega) (by omega) dX6_halves_45 ?_
        refine z_icmp_eqN F (by omega) (by omega) (tgt := 52) dX6_halves_46 (by decide) (fun c_46 => ?_) (fun c_46 => ?_)
        · refine z_iconst F (nI 0) dX6_halves_52 rfl ?_
          refine z_istore F dX6_halves_53 (Nat.le_of_ble_eq_true rfl) ?_
          refine z_leq (L' := [_, _, _, _, _, _]) rfl ?_
          refine z_iconst F (nI 0) dX6_halves_55 rfl ?_
          refine z_istore F dX6_halves_56 (Nat.le_of_ble_eq_true rfl) ?_
          refine z_leq (L' := [_, _, _, _, _, _]) rfl ?_
          exact inner c_46 (by omega) _ 0 (Nat.lt_succ_self _) (by omega)
        · refine z_goto F (tgt := 115) dX6_halves_49 (by decide) ?_
          refine z_iincN F 1 dX6_halves_115 rfl rfl ?_
          refine z_leq (L' := [_, _, _, _, _, _]) rfl ?_
          refine z_goto F (tgt := 26) dX6_halves_118 (by decide) ?_
          have hh := ih (s + 1) (by omega) (by omega)
          rw [hva_n c_46] at hh
          refine z_loc _ ?_ hh
          exact ⟨rfl, rfl, rfl, rfl, trivial⟩
  refine z_aload_n F dX6_halves_0 rfl ?_
  refine z_iload_n F dX6_halves_1 rfl ?_
  refine z_callV F (c_lays_ok _ _ _ _ j n (nI d) f hj (by omega) (by omega) hs) 1 rfl (lw_V q1732 q1734 qs42 q117 q1735) (by decide +kernel) ⟨Nat.le_of_ble_eq_true rfl, Nat.le_of_ble_eq_true rfl⟩ ⟨by omega, by omega⟩ [0, 1] 2 ⟨rfl, rfl, rfl, ⟨Or.inl rfl, Or.inr rfl, trivial⟩⟩ (fun h => nomatch h) (Nat.le_of_ble_eq_true rfl) ⟨⟨Or.inr trivial, Or.inl rfl, trivial⟩, rfl, rfl, rfl, Nat.le_of_ble_eq_true rfl⟩ rfl zC6 (zat_G0 rfl) rfl dX6_halves_2 (fun r_2 w_2 hp => ?_) (fun _ _ h => h.elim)
  obtain ⟨rfl, F1, A1, rfl, f0, f1, f2, f3⟩ := hp
  refine z_weq (w' := [zH, zG _ _ _ _]) rfl ?_
  refine z_seq (S' := zi _ :: _) rfl ?_
  refine z_if_neB F (tgt := 10) dX6_halves_5 (by decide) (fun c_5 => ?_) (fun c_5 => ?_)
  · refine z_aload_n F dX6_halves_10 rfl ?_
    refine z_mi F rfl 4 rfl (Nat.le_of_ble_eq_true rfl) rfl q1484 dX6_halves_11 ?_
    refine z_ieq (f3.1) ?_
    refine z_bipush F (nI 14) dX6_halves_14 rfl ?_
    refine z_icmp_leN F (by omega) (by omega) (tgt := 21) dX6_halves_16 (by decide) (fun c_16 => ?_) (fun c_16 => ?_)
    · refine z_bipush F (nI 99) dX6_halves_21 rfl ?_
      refine z_istore_n F dX6_halves_23 (Nat.le_of_ble_eq_true rfl) ?_
      refine z_leq (L' := [_, _, _, _, _, _]) rfl ?_
      refine z_iconst F (nI 0) dX6_halves_24 rfl ?_
      refine z_istore_n F dX6_halves_25 (Nat.le_of_ble_eq_true rfl) ?_
      refine z_leq (L' := [_, _, _, _, _, _]) rfl ?_
      exact outer F1 A1 f0 f3.1 f1 f2 f3.2.2 _ 0 (Nat.lt_succ_self _) (by omega)
    · exact absurd c_16 (by omega)
  · cases c_5
theorem c_mhalves_big (F0 : Nat → Int32) (G : Nat → Int64) (A : Nat → Nat → Int32) (B : Nat → Nat → Int64) (j n d : Nat) (f : Nat → Int32) (hj : j < 8) (h : nok n d f) (hn : 14 < n) (hs : Slt A j n (nI d) f) :
    zCtr yX6_halves cX6_halves 6 (some .int) 2 0 0 [zr 1 0, zi (nI j)] [zH, zG F0 G A B] (fun r w => r = some (zi (-1)) ∧ ∃ F' A', w = [zH, zG F' G A' B] ∧ F' 0 = nI 0 ∧ frm [0, 4, 5] F0 F' ∧ frm [6] A A') zNx := by
  refine z_start (by decide) [some (zr 1 0), some (zi (nI j)), none, none, none, none] rfl (fun _ => Nat.le_of_ble_eq_true rfl) (fun _ => rfl) (fun X F E hno hin => ?_)
  have h24 := h.n24
  refine z_aload_n F dX6_halves_0 rfl ?_
  refine z_iload_n F dX6_halves_1 rfl ?_
  refine z_callV F (c_lays_ok _ _ _ _ j n (nI d) f hj (by omega) h24 hs) 1 rfl (lw_V q1732 q1734 qs42 q117 q1735) (by decide +kernel) ⟨Nat.le_of_ble_eq_true rfl, Nat.le_of_ble_eq_true rfl⟩ ⟨by omega, by omega⟩ [0, 1] 2 ⟨rfl, rfl, rfl, ⟨Or.inl rfl, Or.inr rfl, trivial⟩⟩ (fun h => nomatch h) (Nat.le_of_ble_eq_true rfl) ⟨⟨Or.inr trivial, Or.inl rfl, trivial⟩, rfl, rfl, rfl, Nat.le_of_ble_eq_true rfl⟩ rfl zC6 (zat_G0 rfl) rfl dX6_halves_2 (fun r_2 w_2 hp => ?_) (fun _ _ h => h.elim)
  obtain ⟨rfl, F1, A1, rfl, f0, f1, f2, f3⟩ := hp
  refine z_weq (w' := [zH, zG _ _ _ _]) rfl ?_
  refine z_seq (S' := zi _ :: _) rfl ?_
  refine z_if_neB F (tgt := 10) dX6_halves_5 (by decide) (fun c_5 => ?_) (fun c_5 => ?_)
  · refine z_aload_n F dX6_halves_10 rfl ?_
    refine z_mi F rfl 4 rfl (Nat.le_of_ble_eq_true rfl) rfl q1484 dX6_halves_11 ?_
    refine z_ieq (f3.1) ?_
    refine z_bipush F (nI 14) dX6_halves_14 rfl ?_
    refine z_icmp_leN F (by omega) (by omega) (tgt := 21) dX6_halves_16 (by decide) (fun c_16 => ?_) (fun c_16 => ?_)
    · exact absurd c_16 (by omega)
    · refine z_iconst F (-1) dX6_halves_19 rfl ?_
      exact z_iret F E rfl dX6_halves_20 (by omega) (by omega) (⟨rfl, F1, A1, rfl, f0, f1, f2⟩)
  · cases c_5
-- bound
abbrev bCAP : Int64 := 1000000000
def bc1 (q : Int64) : Nat → Int64 → Int64 → Int64
  | 0, s, _ => s
  | m + 1, s, st => if s < bCAP then bc1 q m (s + st) (st * q) else s
def bm1 (q : Int64) : Nat → Int64 → Int64 → Int64
  | 0, s, _ => s
  | m + 1, s, st => bm1 q m (if bCAP < s + st then bCAP else s + st) (if bCAP < st * q then bCAP else st * q)
def bnd (d k : Nat) : Int32 := (bm1 (nI (d - 1)).toInt64 k 1 (nI d).toInt64).toInt32
theorem bnd_eq : ∀ d, d < 9 → 1 ≤ d → ∀ k, k < 25 → (if bc1 (nI (d - 1)).toInt64 k 1 (nI d).toInt64 < bCAP then bc1 (nI (d - 1)).toInt64 k 1 (nI d).toInt64 else bCAP).toInt32 = bnd d k := by decide +kernel
theorem lc_ge {x y : Int64} : 0 ≤ lg_cmp x y ↔ ¬ x < y := by
  unfold lg_cmp
  split
  · rename_i h
    exact ⟨fun _ q => by rw [gt_iff_lt] at h; exact Int64.lt_irrefl (Int64.lt_trans h q), fun _ => by decide⟩
  · split
    · rename_i h
      subst h
      exact ⟨fun _ => Int64.lt_irrefl, fun _ => by decide⟩
    · rename_i h1 h2
      refine ⟨fun q => absurd q (by decide), fun q => ?_⟩
      exfalso
      exact h2 (Int64.le_antisymm (Int64.not_lt.mp h1) (Int64.not_lt.mp q))
theorem lc_le {x y : Int64} : lg_cmp x y ≤ 0 ↔ ¬ y < x := by
  unfold lg_cmp
  split
  · rename_i h
    exact ⟨fun q => absurd q (by decide), fun q => absurd h q⟩
  · rename_i h
    refine ⟨fun _ => h, fun _ => ?_⟩
    split <;> decide
theorem c_pbound (P : zPt) (t : Nat) (fp : Int32) (d k : Nat) (hd : 1 ≤ d) (hd8 : d ≤ 8) (hk : k ≤ 24) : zCtr yX1_bound cX1_bound 8 (some .int) 8 3 18 [zr 1 0, zi (nI d), zi (nI k)] [zH, zH] (fun r w => r = some (zi (bnd d k)) ∧ w = [zH, zH]) zNx := by
  refine z_start (by decide) [some (zr 1 0), some (zi (nI d)), some (zi (nI k)), none, none, none, none, none] rfl (fun _ => Nat.le_of_ble_eq_true rfl) (fun _ => rfl) (fun X F E hno hin => ?_)
  have b1 : inB (nI d) (nI 1) (nI 8) = true := inB_n (by omega) hd hd8
  have b2 : inB (nI k) (nI 0) (nI 24) = true := inB_n (by omega) (by omega) hk
  have loop : ∀ (m i : Nat) (s st : Int64), k - i < m → i ≤ k → bc1 (nI (d - 1)).toInt64 (k - i) s st = bc1 (nI (d - 1)).toInt64 k 1 (nI d).toInt64 → Z X [some (zr 1 0), some (zi (nI d)), some (zi (nI k)), some (zl s), none, some (zl st), none, some (zi (nI i))] [] [zH, zH] 1 6 37 := by
    intro m
    induction m with
    | zero => intro i s st hm; omega
    | succ m ih =>
      intro i s st hm hi he
      refine z_iload F dX1_bound_37 rfl ?_
      refine z_iload_n F dX1_bound_39 rfl ?_
      refine z_icmp_geN F (by omega) (by omega) (tgt := 71) dX1_bound_40 (by decide) (fun c_40 => ?_) (fun c_40 => ?_)
      · rw [show k - i = 0 by omega, bc1] at he
        refine z_ldc2 F dX1_bound_71 q1060 ?_
        refine z_lload_n F dX1_bound_74 rfl ?_
        refine z_mminl F q1061 dX1_bound_75 (Nat.le_of_ble_eq_true rfl) rfl (Nat.le_of_ble_eq_true rfl) ⟨by omega, by omega⟩ ?_
        refine z_l2i F dX1_bound_78 ?_
        exact z_iret F E rfl dX1_bound_79 (by omega) (by omega) (⟨by rw [he]; exact congrArg (fun z => some (zi z)) (bnd_eq d (by omega) hd k (by omega)), rfl⟩)
      · obtain ⟨q, hq⟩ : ∃ q, k - i = q + 1 := ⟨k - i - 1, by omega⟩
        rw [hq, bc1] at he
        refine z_lload_n F dX1_bound_43 rfl ?_
        refine z_ldc2 F dX1_bound_44 q1060 ?_
        refine z_lcmp F dX1_bound_47 ?_
        refine z_if_ge F (tgt := 71) dX1_bound_48 (by decide) (fun c_48 => ?_) (fun c_48 => ?_)
        · rw [if_neg (lc_ge.mp c_48)] at he
          refine z_ldc2 F dX1_bound_71 q1060 ?_
          refine z_lload_n F dX1_bound_74 rfl ?_
          refine z_mminl F q1061 dX1_bound_75 (Nat.le_of_ble_eq_true rfl) rfl (Nat.le_of_ble_eq_true rfl) ⟨by omega, by omega⟩ ?_
          refine z_l2i F dX1_bound_78 ?_
          exact z_iret F E rfl dX1_bound_79 (by omega) (by omega) (⟨by rw [he]; exact congrArg (fun z => some (zi z)) (bnd_eq d (by omega) hd k (by omega)), rfl⟩)
        · refine z_lload_n F dX1_bound_51 rfl ?_
          refine z_lload F dX1_bound_52 rfl ?_
          refine z_ladd F dX1_bound_54 ?_
          refine z_lstore_n F dX1_bound_55 (Nat.le_of_ble_eq_true rfl) ?_
          refine z_leq (L' := [_, _, _, _, _, _, _, _]) rfl ?_
          refine z_lload F dX1_bound_56 rfl ?_
          refine z_iload_n F dX1_bound_58 rfl ?_
          refine z_iconst F (nI 1) dX1_bound_59 rfl ?_
          refine z_isubN F (by omega) dX1_bound_60 ?_
          refine z_i2l F dX1_bound_61 ?_
          refine z_lmul F dX1_bound_62 ?_
          refine z_lstore F dX1_bound_63 (Nat.le_of_ble_eq_true rfl) ?_
          refine z_leq (L' := [_, _, _, _, _, _, _, _]) rfl ?_
          refine z_iincN F 1 dX1_bound_65 rfl rfl ?_
          refine z_leq (L' := [_, _, _, _, _, _, _, _]) rfl ?_
          refine z_goto F (tgt := 37) dX1_bound_68 (by decide) ?_
          rw [if_pos (Classical.byContradiction fun z => c_48 (lc_ge.mpr z))] at he
          exact ih (i + 1) _ _ (by omega) (by omega) (by rw [show k - (i + 1) = q by omega]; exact he)
  refine z_iload_n F dX1_bound_0 rfl ?_
  refine z_iconst F (nI 1) dX1_bound_1 rfl ?_
  refine z_bipush F (nI 8) dX1_bound_2 rfl ?_
  refine z_callS F (c_in (nI d) (nI 1) (nI 8)) 3 rfl (lw_S q349 q350 q109 q351) (by decide +kernel) ⟨Nat.le_of_ble_eq_true rfl, Nat.le_of_ble_eq_true rfl⟩ ⟨by omega, by omega⟩ [0] 2 ⟨rfl, rfl, rfl, ⟨Or.inl rfl, trivial⟩⟩ (fun h => nomatch h) (Nat.le_of_ble_eq_true rfl) ⟨⟨Or.inr trivial, Or.inr trivial, trivial⟩, rfl, rfl, rfl, Nat.le_of_ble_eq_true rfl⟩ rfl rfl dX1_bound_4 (fun r_4 w_4 hp => ?_) (fun _ _ h => h.elim)
  obtain ⟨rfl, rfl⟩ := hp
  rw [b1]
  refine z_weq (w' := [zH, zH]) rfl ?_
  refine z_seq (S' := zi _ :: _) rfl ?_
  refine z_if_eqB F (tgt := 24) dX1_bound_7 (by decide) (fun c_7 => ?_) (fun c_7 => ?_)
  · cases c_7
  · refine z_iload_n F dX1_bound_10 rfl ?_
    refine z_iconst F (nI 0) dX1_bound_11 rfl ?_
    refine z_bipush F (nI 24) dX1_bound_12 rfl ?_
    refine z_callS F (c_in (nI k) (nI 0) (nI 24)) 3 rfl (lw_S q349 q350 q109 q351) (by decide +kernel) ⟨Nat.le_of_ble_eq_true rfl, Nat.le_of_ble_eq_true rfl⟩ ⟨by omega, by omega⟩ [0] 2 ⟨rfl, rfl, rfl, ⟨Or.inl rfl, trivial⟩⟩ (fun h => nomatch h) (Nat.le_of_ble_eq_true rfl) ⟨⟨Or.inr trivial, Or.inr trivial, trivial⟩, rfl, rfl, rfl, Nat.le_of_ble_eq_true rfl⟩ rfl rfl dX1_bound_14 (fun r_14 w_14 hp => ?_) (fun _ _ h => h.elim)
    obtain ⟨rfl, rfl⟩ := hp
    rw [b2]
    refine z_weq (w' := [zH, zH]) rfl ?_
    refine z_seq (S' := zi _ :: _) rfl ?_
    refine z_if_eqB F (tgt := 24) dX1_bound_17 (by decide) (fun c_17 => ?_) (fun c_17 => ?_)
    · cases c_17
    · refine z_iconstB F true dX1_bound_20 rfl ?_
      refine z_goto F (tgt := 25) dX1_bound_21 (by decide) ?_
      refine z_callS F (c_rgt true) 1 rfl (lw_S q538 q539 q109 q540) (by decide +kernel) ⟨Nat.le_of_ble_eq_true rfl, Nat.le_of_ble_eq_true rfl⟩ ⟨by omega, by omega⟩ [0] 2 ⟨rfl, rfl, rfl, ⟨Or.inl rfl, trivial⟩⟩ (fun h => nomatch h) (Nat.le_of_ble_eq_true rfl) ⟨⟨Or.inr trivial, Or.inr trivial, trivial⟩, rfl, rfl, rfl, Nat.le_of_ble_eq_true rfl⟩ rfl rfl dX1_bound_25 (fun r_25 w_25 hp => ?_) (fun E_ w_ hx => by obtain ⟨-, hb, -⟩ := hx; cases hb)
      obtain ⟨rfl, -, rfl⟩ := hp
      refine z_weq (w' := [zH, zH]) rfl ?_
      refine z_seq (S' := []) rfl ?_
      refine z_lconst F 1 dX1_bound_28 rfl ?_
      refine z_lstore_n F dX1_bound_29 (Nat.le_of_ble_eq_true rfl) ?_
      refine z_leq (L' := [_, _, _, _, _, _, _, _]) rfl ?_
      refine z_iload_n F dX1_bound_30 rfl ?_
      refine z_i2l F dX1_bound_31 ?_
      refine z_lstore F dX1_bound_32 (Nat.le_of_ble_eq_true rfl) ?_
      refine z_leq (L' := [_, _, _, _, _, _, _, _]) rfl ?_
      refine z_iconst F (nI 0) dX1_bound_34 rfl ?_
      refine z_istore F dX1_bound_35 (Nat.le_of_ble_eq_true rfl) ?_
      refine z_leq (L' := [_, _, _, _, _, _, _, _]) rfl ?_
      exact loop _ 0 _ _ (Nat.lt_succ_self _) (by omega) rfl
theorem c_pbound_bad (x y : Int32) (hx : (inB x (nI 1) (nI 8) && inB y (nI 0) (nI 24)) = false) : zCtr yX1_bound cX1_bound 8 (some .int) 8 3 18 [zr 1 0, zi x, zi y] [zH, zH] (fun r w => False) (fun E w => E = eIAE ∧ True ∧ w = [zH, zH]) := by
  refine z_start (by decide) [some (zr 1 0), some (zi x), some (zi y), none, none, none, none, none] rfl (fun _ => Nat.le_of_ble_eq_true rfl) (fun _ => rfl) (fun X F E hno hin => ?_)
  refine z_iload_n F dX1_bound_0 rfl ?_
  refine z_iconst F (nI 1) dX1_bound_1 rfl ?_
  refine z_bipush F (nI 8) dX1_bound_2 rfl ?_
  refine z_callS F (c_in x (nI 1) (nI 8)) 3 rfl (lw_S q349 q350 q109 q351) (by decide +kernel) ⟨Nat.le_of_ble_eq_true rfl, Nat.le_of_ble_eq_true rfl⟩ ⟨by omega, by omega⟩ [0] 2 ⟨rfl, rfl, rfl, ⟨Or.inl rfl, trivial⟩⟩ (fun h => nomatch h) (Nat.le_of_ble_eq_true rfl) ⟨⟨Or.inr trivial, Or.inr trivial, trivial⟩, rfl, rfl, rfl, Nat.le_of_ble_eq_true rfl⟩ rfl rfl dX1_bound_4 (fun r_4 w_4 hp => ?_) (fun _ _ h => h.elim)
  obtain ⟨rfl, rfl⟩ := hp
  refine z_weq (w' := [zH, zH]) rfl ?_
  refine z_seq (S' := zi _ :: _) rfl ?_
  refine z_if_eqB F (tgt := 24) dX1_bound_7 (by decide) (fun c_7 => ?_) (fun c_7 => ?_)
  · refine z_iconstB F false dX1_bound_24 rfl ?_
    refine z_callS F (c_rgt false) 1 rfl (lw_S q538 q539 q109 q540) (by decide +kernel) ⟨Nat.le_of_ble_eq_true rfl, Nat.le_of_ble_eq_true rfl⟩ ⟨by omega, by omega⟩ [0] 2 ⟨rfl, rfl, rfl, ⟨Or.inl rfl, trivial⟩⟩ (fun h => nomatch h) (Nat.le_of_ble_eq_true rfl) ⟨⟨Or.inr trivial, Or.inr trivial, trivial⟩, rfl, rfl, rfl, Nat.le_of_ble_eq_true rfl⟩ rfl rfl dX1_bound_25 (fun r_25 w_25 hp => ?_) (fun E_ w_ hx => by obtain ⟨rfl, -, rfl⟩ := hx; exact zx_out F E hno (by omega) (by omega) ⟨rfl, trivial, rfl⟩)
    exact nomatch hp.2.1
  · refine z_iload_n F dX1_bound_10 rfl ?_
    refine z_iconst F (nI 0) dX1_bound_11 rfl ?_
    refine z_bipush F (nI 24) dX1_bound_12 rfl ?_
    refine z_callS F (c_in y (nI 0) (nI 24)) 3 rfl (lw_S q349 q350 q109 q351) (by decide +kernel) ⟨Nat.le_of_ble_eq_true rfl, Nat.le_of_ble_eq_true rfl⟩ ⟨by omega, by omega⟩ [0] 2 ⟨rfl, rfl, rfl, ⟨Or.inl rfl, trivial⟩⟩ (fun h => nomatch h) (Nat.le_of_ble_eq_true rfl) ⟨⟨Or.inr trivial, Or.inr trivial, trivial⟩, rfl, rfl, rfl, Nat.le_of_ble_eq_true rfl⟩ rfl rfl dX1_bound_14 (fun r_14 w_14 hp => ?_) (fun _ _ h => h.elim)
    obtain ⟨rfl, rfl⟩ := hp
    refine z_weq (w' := [zH, zH]) rfl ?_
    refine z_seq (S' := zi _ :: _) rfl ?_
    refine z_if_eqB F (tgt := 24) dX1_bound_17 (by decide) (fun c_17 => ?_) (fun c_17 => ?_)
    · refine z_iconstB F false dX1_bound_24 rfl ?_
      refine z_callS F (c_rgt false) 1 rfl (lw_S q538 q539 q109 q540) (by decide +kernel) ⟨Nat.le_of_ble_eq_true rfl, Nat.le_of_ble_eq_true rfl⟩ ⟨by omega, by omega⟩ [0] 2 ⟨rfl, rfl, rfl, ⟨Or.inl rfl, trivial⟩⟩ (fun h => nomatch h) (Nat.le_of_ble_eq_true rfl) ⟨⟨Or.inr trivial, Or.inr trivial, trivial⟩, rfl, rfl, rfl, Nat.le_of_ble_eq_true rfl⟩ rfl rfl dX1_bound_25 (fun r_25 w_25 hp => ?_) (fun E_ w_ hx => by obtain ⟨rfl, -, rfl⟩ := hx; exact zx_out F E hno (by omega) (by omega) ⟨rfl, trivial, rfl⟩)
      exact nomatch hp.2.1
    · rw [c_7, c_17] at hx; cases hx
theorem c_mbound_ok (F0 : Nat → Int32) (G : Nat → Int64) (A : Nat → Nat → Int32) (B : Nat → Nat → Int64) (d k : Nat) (hd : 1 ≤ d) (hd8 : d ≤ 8) (hk : k ≤ 24) :
    zCtr yX6_bound cX6_bound 8 (some .int) 2 0 0 [zr 1 0, zi (nI d), zi (nI k)] [zH, zG F0 G A B] (fun r w => r = some (zi (bnd d k)) ∧ w = [zH, zG (upd F0 0 (nI 0)) G A B]) zNx := by
  refine z_start (by decide) [some (zr 1 0), some (zi (nI d)), some (zi (nI k)), none, none, none, none, none] rfl (fun _ => Nat.le_of_ble_eq_true rfl) (fun _ => rfl) (fun X F E hno hin => ?_)
  have b1 : inB (nI d) (nI 1) (nI 8) = true := inB_n (by omega) hd hd8
  have b2 : inB (nI k) (nI 0) (nI 24) = true := inB_n (by omega) (by omega) hk
  have loop : ∀ (m i : Nat) (s st : Int64), k - i < m → i ≤ k → bm1 (nI (d - 1)).toInt64 (k - i) s st = bm1 (nI (d - 1)).toInt64 k 1 (nI d).toInt64 → Z X [some (zr 1 0), some (zi (nI d)), some (zi (nI k)), some (zl s), none, some (zl st), none, some (zi (nI i))] [] [zH, zG (upd F0 0 (nI 0)) G A B] 0 0 49 := by
    intro m
    induction m with
    | zero => intro i s st hm; omega
    | succ m ih =>
      intro i s st hm hi he
      have fin : ∀ s' st', i < k → s' = (if bCAP < s + st then bCAP else s + st) → st' = (if bCAP < st * (nI (d - 1)).toInt64 then bCAP else st * (nI (d - 1)).toInt64) → Z X [some (zr 1 0), some (zi (nI d)), some (zi (nI k)), some (zl s'), none, some (zl st'), none, some (zi (nI (i + 1)))] [] [zH, zG (upd F0 0 (nI 0)) G A B] 0 0 49 := by
        intro s' st' hlt h1 h2
        obtain ⟨q, hq⟩ : ∃ q, k - i = q + 1 := ⟨k - i - 1, by omega⟩
        rw [hq, bm1, ← h1, ← h2] at he
        exact ih (i + 1) s' st' (by omega) (by omega) (by rw [show k - (i + 1) = q by omega]; exact he)
      refine z_iload F dX6_bound_49 rfl ?_
      refine z_iload_n F dX6_bound_51 rfl ?_
      refine z_icmp_geN F (by omega) (by omega) (tgt := 110) dX6_bound_52 (by decide) (fun c_52 => ?_) (fun c_52 => ?_)
      · rw [show k - i = 0 by omega, bm1] at he
        refine z_lload_n F dX6_bound_110 rfl ?_
        refine z_l2i F dX6_bound_111 ?_
        exact z_iret F E rfl dX6_bound_112 (by omega) (by omega) (⟨by rw [he]; rfl, rfl⟩)
      · refine z_lload_n F dX6_bound_55 rfl ?_
        refine z_lload F dX6_bound_56 rfl ?_
        refine z_ladd F dX6_bound_58 ?_
        refine z_lstore_n F dX6_bound_59 (Nat.le_of_ble_eq_true rfl) ?_
        refine z_leq (L' := [_, _, _, _, _, _, _, _]) rfl ?_
        refine z_lload F dX6_bound_60 rfl ?_
        refine z_iload_n F dX6_bound_62 rfl ?_
        refine z_iconst F (nI 1) dX6_bound_63 rfl ?_
        refine z_isubN F (by omega) dX6_bound_64 ?_
        refine z_i2l F dX6_bound_65 ?_
        refine z_lmul F dX6_bound_66 ?_
        refine z_lstore F dX6_bound_67 (Nat.le_of_ble_eq_true rfl) ?_
        refine z_leq (L' := [_, _, _, _, _, _, _, _]) rfl ?_
        refine z_lload_n F dX6_bound_69 rfl ?_
        refine z_ldc2 F dX6_bound_70 q2022 ?_
        refine z_lcmp F dX6_bound_73 ?_
        refine z_if_le F (tgt := 83) dX6_bound_74 (by decide) (fun c_74 => ?_) (fun c_74 => ?_)
        · refine z_lload_n F dX6_bound_83 rfl ?_
          refine z_lstore_n F dX6_bound_84 (Nat.le_of_ble_eq_true rfl) ?_
          refine z_leq (L' := [_, _, _, _, _, _, _, _]) rfl ?_
          refine z_lload F dX6_bound_85 rfl ?_
          refine z_ldc2 F dX6_bound_87 q2022 ?_
          refine z_lcmp F dX6_bound_90 ?_
          refine z_if_le F (tgt := 100) dX6_bound_91 (by decide) (fun c_91 => ?_) (fun c_91 => ?_)
          · refine z_lload F dX6_bound_100 rfl ?_
            refine z_lstore F dX6_bound_102 (Nat.le_of_ble_eq_true rfl) ?_
            refine z_leq (L' := [_, _, _, _, _, _, _, _]) rfl ?_
            refine z_iincN F 1 dX6_bound_104 rfl rfl ?_
            refine z_leq (L' := [_, _, _, _, _, _, _, _]) rfl ?_
            refine z_goto F (tgt := 49) dX6_bound_107 (by decide) ?_
            exact fin _ _ (by omega) (by first | exact (if_neg (lc_le.mp c_74)).symm | exact (if_pos (Classical.byContradiction fun z => c_74 (lc_le.mpr z))).symm) (by first | exact (if_neg (lc_le.mp c_91)).symm | exact (if_pos (Classical.byContradiction fun z => c_91 (lc_le.mpr z))).symm)
          · refine z_ldc2 F dX6_bound_94 q2022 ?_
            refine z_goto F (tgt := 102) dX6_bound_97 (by decide) ?_
            refine z_lstore F dX6_bound_102 (Nat.le_of_ble_eq_true rfl) ?_
            refine z_leq (L' := [_, _, _, _, _, _, _, _]) rfl ?_
            refine z_iincN F 1 dX6_bound_104 rfl rfl ?_
            refine z_leq (L' := [_, _, _, _, _, _, _, _]) rfl ?_
            refine z_goto F (tgt := 49) dX6_bound_107 (by decide) ?_
            exact fin _ _ (by omega) (by first | exact (if_neg (lc_le.mp c_74)).symm | exact (if_pos (Classical.byContradiction fun z => c_74 (lc_le.mpr z))).symm) (by first | exact (if_neg (lc_le.mp c_91)).symm | exact (if_pos (Classical.byContradiction fun z => c_91 (lc_le.mpr z))).symm)
        · refine z_ldc2 F dX6_bound_77 q2022 ?_
          refine z_goto F (tgt := 84) dX6_bound_80 (by decide) ?_
          refine z_lstore_n F dX6_bound_84 (Nat.le_of_ble_eq_true rfl) ?_
          refine z_leq (L' := [_, _, _, _, _, _, _, _]) rfl ?_
          refine z_lload F dX6_bound_85 rfl ?_
          refine z_ldc2 F dX6_bound_87 q2022 ?_
          refine z_lcmp F dX6_bound_90 ?_
          refine z_if_le F (tgt := 100) dX6_bound_91 (by decide) (fun c_91 => ?_) (fun c_91 => ?_)
          · refine z_lload F dX6_bound_100 rfl ?_
            refine z_lstore F dX6_bound_102 (Nat.le_of_ble_eq_true rfl) ?_
            refine z_leq (L' := [_, _, _, _, _, _, _, _]) rfl ?_
            refine z_iincN F 1 dX6_bound_104 rfl rfl ?_
            refine z_leq (L' := [_, _, _, _, _, _, _, _]) rfl ?_
            refine z_goto F (tgt := 49) dX6_bound_107 (by decide) ?_
            exact fin _ _ (by omega) (by first | exact (if_neg (lc_le.mp c_74)).symm | exact (if_pos (Classical.byContradiction fun z => c_74 (lc_le.mpr z))).symm) (by first | exact (if_neg (lc_le.mp c_91)).symm | exact (if_pos (Classical.byContradiction fun z => c_91 (lc_le.mpr z))).symm)
          · refine z_ldc2 F dX6_bound_94 q2022 ?_
            refine z_goto F (tgt := 102) dX6_bound_97 (by decide) ?_
            refine z_lstore F dX6_bound_102 (Nat.le_of_ble_eq_true rfl) ?_
            refine z_leq (L' := [_, _, _, _, _, _, _, _]) rfl ?_
            refine z_iincN F 1 dX6_bound_104 rfl rfl ?_
            refine z_leq (L' := [_, _, _, _, _, _, _, _]) rfl ?_
            refine z_goto F (tgt := 49) dX6_bound_107 (by decide) ?_
            exact fin _ _ (by omega) (by first | exact (if_neg (lc_le.mp c_74)).symm | exact (if_pos (Classical.byContradiction fun z => c_74 (lc_le.mpr z))).symm) (by first | exact (if_neg (lc_le.mp c_91)).symm | exact (if_pos (Classical.byContradiction fun z => c_91 (lc_le.mpr z))).symm)
  refine z_aload_n F dX6_bound_0 rfl ?_
  refine z_iconst F (nI 0) dX6_bound_1 rfl ?_
  refine z_pmi F rfl 0 rfl (Nat.le_of_ble_eq_true rfl) rfl q1480 rfl rfl rfl dX6_bound_2 ?_
  refine z_weq (w' := [_, _]) rfl ?_
  refine z_aload_n F dX6_bound_5 rfl ?_
  refine z_iload_n F dX6_bound_6 rfl ?_
  refine z_iconst F (nI 1) dX6_bound_7 rfl ?_
  refine z_bipush F (nI 8) dX6_bound_8 rfl ?_
  refine z_callS F (c_within (nI d) (nI 1) (nI 8)) 3 rfl (lw_S q1717 q1718 q117 q1719) (by decide +kernel) ⟨Nat.le_of_ble_eq_true rfl, Nat.le_of_ble_eq_true rfl⟩ ⟨by omega, by omega⟩ [0] 2 ⟨rfl, rfl, rfl, ⟨Or.inl rfl, trivial⟩⟩ (fun h => nomatch h) (Nat.le_of_ble_eq_true rfl) ⟨⟨Or.inr trivial, Or.inr trivial, trivial⟩, rfl, rfl, rfl, Nat.le_of_ble_eq_true rfl⟩ rfl rfl dX6_bound_10 (fun r_10 w_10 hp => ?_) (fun _ _ h => h.elim)
  obtain ⟨rfl, rfl⟩ := hp
  rw [b1]
  refine z_weq (w' := [zH, zG _ _ _ _]) rfl ?_
  refine z_seq (S' := zi _ :: _) rfl ?_
  refine z_if_eqB F (tgt := 30) dX6_bound_13 (by decide) (fun c_13 => ?_) (fun c_13 => ?_)
  · cases c_13
  · refine z_iload_n F dX6_bound_16 rfl ?_
    refine z_iconst F (nI 0) dX6_bound_17 rfl ?_
    refine z_bipush F (nI 24) dX6_bound_18 rfl ?_
    refine z_callS F (c_within (nI k) (nI 0) (nI 24)) 3 rfl (lw_S q1717 q1718 q117 q1719) (by decide +kernel) ⟨Nat.le_of_ble_eq_true rfl, Nat.le_of_ble_eq_true rfl⟩ ⟨by omega, by omega⟩ [0] 2 ⟨rfl, rfl, rfl, ⟨Or.inl rfl, trivial⟩⟩ (fun h => nomatch h) (Nat.le_of_ble_eq_true rfl) ⟨⟨Or.inr trivial, Or.inr trivial, trivial⟩, rfl, rfl, rfl, Nat.le_of_ble_eq_true rfl⟩ rfl rfl dX6_bound_20 (fun r_20 w_20 hp => ?_) (fun _ _ h => h.elim)
    obtain ⟨rfl, rfl⟩ := hp
    rw [b2]
    refine z_weq (w' := [zH, zG _ _ _ _]) rfl ?_
    refine z_seq (S' := zi _ :: _) rfl ?_
    refine z_if_eqB F (tgt := 30) dX6_bound_23 (by decide) (fun c_23 => ?_) (fun c_23 => ?_)
    · cases c_23
    · refine z_iconstB F true dX6_bound_26 rfl ?_
      refine z_goto F (tgt := 31) dX6_bound_27 (by decide) ?_
      refine z_iconst F (nI 1) dX6_bound_31 rfl ?_
      refine z_callV F (c_right (upd F0 0 (nI 0)) _ _ _ true 1 rfl (by omega) (by omega)) 2 rfl (lw_V q1736 q1738 qs43 q117 q1739) (by decide +kernel) ⟨Nat.le_of_ble_eq_true rfl, Nat.le_of_ble_eq_true rfl⟩ ⟨by omega, by omega⟩ [0, 1] 2 ⟨rfl, rfl, rfl, ⟨Or.inl rfl, Or.inr rfl, trivial⟩⟩ (fun h => nomatch h) (Nat.le_of_ble_eq_true rfl) ⟨⟨Or.inr trivial, Or.inl rfl, trivial⟩, rfl, rfl, rfl, Nat.le_of_ble_eq_true rfl⟩ rfl zC6 (zat_G0 rfl) rfl dX6_bound_32 (fun r_32 w_32 hp => ?_) (fun _ _ h => h.elim)
      obtain ⟨rfl, rfl⟩ := hp
      refine z_weq (w' := [zH, zG _ _ _ _]) rfl ?_
      refine z_seq (S' := zi _ :: _) rfl ?_
      refine z_if_neB F (tgt := 40) dX6_bound_35 (by decide) (fun c_35 => ?_) (fun c_35 => ?_)
      · refine z_lconst F 1 dX6_bound_40 rfl ?_
        refine z_lstore_n F dX6_bound_41 (Nat.le_of_ble_eq_true rfl) ?_
        refine z_leq (L' := [_, _, _, _, _, _, _, _]) rfl ?_
        refine z_iload_n F dX6_bound_42 rfl ?_
        refine z_i2l F dX6_bound_43 ?_
        refine z_lstore F dX6_bound_44 (Nat.le_of_ble_eq_true rfl) ?_
        refine z_leq (L' := [_, _, _, _, _, _, _, _]) rfl ?_
        refine z_iconst F (nI 0) dX6_bound_46 rfl ?_
        refine z_istore F dX6_bound_47 (Nat.le_of_ble_eq_true rfl) ?_
        refine z_leq (L' := [_, _, _, _, _, _, _, _]) rfl ?_
        exact loop _ 0 _ _ (Nat.lt_succ_self _) (by omega) rfl
      · cases c_35
theorem c_mbound_bad (F0 : Nat → Int32) (G : Nat → Int64) (A : Nat → Nat → Int32) (B : Nat → Nat → Int64) (x y : Int32) (hx : (inB x (nI 1) (nI 8) && inB y (nI 0) (nI 24)) = false) :
    zCtr yX6_bound cX6_bound 8 (some .int) 2 0 0 [zr 1 0, zi x, zi y] [zH, zG F0 G A B] (fun r w => r = some (zi (nI 0)) ∧ w = [zH, zG (upd F0 0 (nI 1)) G A B]) zNx := by
  refine z_start (by decide) [some (zr 1 0), some (zi x), some (zi y), none, none, none, none, none] rfl (fun _ => Nat.le_of_ble_eq_true rfl) (fun _ => rfl) (fun X F E hno hin => ?_)
  refine z_aload_n F dX6_bound_0 rfl ?_
  refine z_iconst F (nI 0) dX6_bound_1 rfl ?_
  refine z_pmi F rfl 0 rfl (Nat.le_of_ble_eq_true rfl) rfl q1480 rfl rfl rfl dX6_bound_2 ?_
  refine z_weq (w' := [_, _]) rfl ?_
  refine z_aload_n F dX6_bound_5 rfl ?_
  refine z_iload_n F dX6_bound_6 rfl ?_
  refine z_iconst F (nI 1) dX6_bound_7 rfl ?_
  refine z_bipush F (nI 8) dX6_bound_8 rfl ?_
  refine z_callS F (c_within x (nI 1) (nI 8)) 3 rfl (lw_S q1717 q1718 q117 q1719) (by decide +kernel) ⟨Nat.le_of_ble_eq_true rfl, Nat.le_of_ble_eq_true rfl⟩ ⟨by omega, by omega⟩ [0] 2 ⟨rfl, rfl, rfl, ⟨Or.inl rfl, trivial⟩⟩ (fun h => nomatch h) (Nat.le_of_ble_eq_true rfl) ⟨⟨Or.inr trivial, Or.inr trivial, trivial⟩, rfl, rfl, rfl, Nat.le_of_ble_eq_true rfl⟩ rfl rfl dX6_bound_10 (fun r_10 w_10 hp => ?_) (fun _ _ h => h.elim)
  obtain ⟨rfl, rfl⟩ := hp
  refine z_weq (w' := [zH, zG _ _ _ _]) rfl ?_
  refine z_seq (S' := zi _ :: _) rfl ?_
  refine z_if_eqB F (tgt := 30) dX6_bound_13 (by decide) (fun c_13 => ?_) (fun c_13 => ?_)
  · refine z_iconstB F false dX6_bound_30 rfl ?_
    refine z_iconst F (nI 1) dX6_bound_31 rfl ?_
    refine z_callV F (c_right (upd F0 0 (nI 0)) _ _ _ false 1 rfl (by omega) (by omega)) 2 rfl (lw_V q1736 q1738 qs43 q117 q1739) (by decide +kernel) ⟨Nat.le_of_ble_eq_true rfl, Nat.le_of_ble_eq_true rfl⟩ ⟨by omega, by omega⟩ [0, 1] 2 ⟨rfl, rfl, rfl, ⟨Or.inl rfl, Or.inr rfl, trivial⟩⟩ (fun h => nomatch h) (Nat.le_of_ble_eq_true rfl) ⟨⟨Or.inr trivial, Or.inl rfl, trivial⟩, rfl, rfl, rfl, Nat.le_of_ble_eq_true rfl⟩ rfl zC6 (zat_G0 rfl) rfl dX6_bound_32 (fun r_32 w_32 hp => ?_) (fun _ _ h => h.elim)
    obtain ⟨rfl, rfl⟩ := hp
    refine z_weq (w' := [zH, zG _ _ _ _]) rfl ?_
    refine z_seq (S' := zi _ :: _) rfl ?_
    refine z_if_neB F (tgt := 40) dX6_bound_35 (by decide) (fun c_35 => ?_) (fun c_35 => ?_)
    · cases c_35
    · refine z_iconst F (nI 0) dX6_bound_38 rfl ?_
      exact z_iret F E rfl dX6_bound_39 (by omega) (by omega) (⟨rfl, by rw [if_neg (by decide), upd_upd]⟩)
  · refine z_iload_n F dX6_bound_16 rfl ?_
    refine z_iconst F (nI 0) dX6_bound_17 rfl ?_
    refine z_bipush F (nI 24) dX6_bound_18 rfl ?_
    refine z_callS F (c_within y (nI 0) (nI 24)) 3 rfl (lw_S q1717 q1718 q117 q1719) (by decide +kernel) ⟨Nat.le_of_ble_eq_true rfl, Nat.le_of_ble_eq_true rfl⟩ ⟨by omega, by omega⟩ [0] 2 ⟨rfl, rfl, rfl, ⟨Or.inl rfl, trivial⟩⟩ (fun h => nomatch h) (Nat.le_of_ble_eq_true rfl) ⟨⟨Or.inr trivial, Or.inr trivial, trivial⟩, rfl, rfl, rfl, Nat.le_of_ble_eq_true rfl⟩ rfl rfl dX6_bound_20 (fun r_20 w_20 hp => ?_) (fun _ _ h => h.elim)
    obtain ⟨rfl, rfl⟩ := hp
    refine z_weq (w' := [zH, zG _ _ _ _]) rfl ?_
    refine z_seq (S' := zi _ :: _) rfl ?_
    refine z_if_eqB F (tgt := 30) dX6_bound_23 (by decide) (fun c_23 => ?_) (fun c_23 => ?_)
    · refine z_iconstB F false dX6_bound_30 rfl ?_
      refine z_iconst F (nI 1) dX6_bound_31 rfl ?_
      refine z_callV F (c_right (upd F0 0 (nI 0)) _ _ _ false 1 rfl (by omega) (by omega)) 2 rfl (lw_V q1736 q1738 qs43 q117 q1739) (by decide +kernel) ⟨Nat.le_of_ble_eq_true rfl, Nat.le_of_ble_eq_true rfl⟩ ⟨by omega, by omega⟩ [0, 1] 2 ⟨rfl, rfl, rfl, ⟨Or.inl rfl, Or.inr rfl, trivial⟩⟩ (fun h => nomatch h) (Nat.le_of_ble_eq_true rfl) ⟨⟨Or.inr trivial, Or.inl rfl, trivial⟩, rfl, rfl, rfl, Nat.le_of_ble_eq_true rfl⟩ rfl zC6 (zat_G0 rfl) rfl dX6_bound_32 (fun r_32 w_32 hp => ?_) (fun _ _ h => h.elim)
      obtain ⟨rfl, rfl⟩ := hp
      refine z_weq (w' := [zH, zG _ _ _ _]) rfl ?_
      refine z_seq (S' := zi _ :: _) rfl ?_
      refine z_if_neB F (tgt := 40) dX6_bound_35 (by decide) (fun c_35 => ?_) (fun c_35 => ?_)
      · cases c_35
      · refine z_iconst F (nI 0) dX6_bound_38 rfl ?_
        exact z_iret F E rfl dX6_bound_39 (by omega) (by omega) (⟨rfl, by rw [if_neg (by decide), upd_upd]⟩)
    · rw [c_13, c_23] at hx; cases hx
end C61
