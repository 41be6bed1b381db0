/-! the polynomial -/
section C68
def plD (n : Nat) (c : Nat → Int64) (M : Nat → Nat → Int64) (k : Nat) : Nat → Nat → Int64 := fun i j => if i = j then M i j + c (n - k + 1) else M i j
def ltr (M : Nat → Nat → Int64) : Nat → Int64
  | 0 => 0
  | x + 1 => ltr M x + M x x
def plM (n : Nat) (f : Nat → Int32) (S : (Nat → Int64) × (Nat → Nat → Int64)) (k : Nat) : Nat → Nat → Int64 := fun i j => awr f (plD n S.1 S.2 k) i j n
def plS (n : Nat) (f : Nat → Int32) : Nat → (Nat → Int64) × (Nat → Nat → Int64)
  | 0 => (fun j => if j = n then 1 else 0, fun _ _ => 0)
  | k + 1 => (fun j => if j = n - (k + 1) then (-(ltr (plM n f (plS n f k) (k + 1)) n)) / (nI (k + 1)).toInt64 else (plS n f k).1 j, plM n f (plS n f k) (k + 1))
def pli (n : Nat) (f : Nat → Int32) (k : Nat) (P : Nat → Int64) (T : Nat → Nat → Int64) : Prop := (∀ j, n - k ≤ j → j ≤ n → P j = (plS n f k).1 j) ∧ ∀ i j, i < n → j < n → T i j = (plS n f k).2 i j
theorem ltr_cong {M M' : Nat → Nat → Int64} : ∀ x, (∀ a, a < x → M a a = M' a a) → ltr M x = ltr M' x
  | 0, _ => rfl
  | x + 1, h => by rw [ltr, ltr, ltr_cong x (fun a ha => h a (by omega)), h x (by omega)]
theorem pli_0 {n : Nat} {f : Nat → Int32} {P : Nat → Int64} (h : P n = 1) : pli n f 0 P (fun _ _ => 0) := ⟨fun j h1 h2 => by
  rw [show j = n by omega, h]
  show _ = if n = n then (1 : Int64) else 0
  rw [if_pos rfl], fun i j _ _ => rfl⟩
theorem pli_next {n : Nat} {f : Nat → Int32} {k : Nat} {P P' : Nat → Int64} {T T2 : Nat → Nat → Int64} (h : pli n f k P T) (hk : k < n) (h2 : ∀ a b, a < n → b < n → T2 a b = plM n f (plS n f k) (k + 1) a b) (hP : ∀ j, n - (k + 1) ≤ j → j ≤ n → P' j = if j = n - (k + 1) then (-(ltr T2 n)) / (nI (k + 1)).toInt64 else P j) : pli n f (k + 1) P' T2 := by
  refine ⟨fun j h1 h3 => ?_, fun i j hi hj => h2 i j hi hj⟩
  rw [hP j h1 h3, plS]
  show _ = if j = n - (k + 1) then _ else _
  by_cases q : j = n - (k + 1)
  · rw [if_pos q, if_pos q, ltr_cong n (fun a ha => h2 a a ha ha)]
  · rw [if_neg q, if_neg q]
    exact h.1 j (by omega) h3
def dgi (n : Nat) (S : (Nat → Int64) × (Nat → Nat → Int64)) (k i : Nat) (T : Nat → Nat → Int64) : Prop := ∀ a b, a < n → b < n → T a b = if a = b ∧ a < i then S.2 a b + S.1 (n - k + 1) else S.2 a b
theorem dgi_0 {n : Nat} {f : Nat → Int32} {k : Nat} {P : Nat → Int64} {T : Nat → Nat → Int64} (h : pli n f k P T) : dgi n (plS n f k) (k + 1) 0 T := fun a b ha hb => by rw [if_neg (by omega), h.2 a b ha hb]
theorem dgi_step {n : Nat} {f : Nat → Int32} {k i : Nat} {P : Nat → Int64} {T T1 : Nat → Nat → Int64} (h : pli n f k P T) (hk : k < n) (h1 : dgi n (plS n f k) (k + 1) i T1) (hi : i < n) : dgi n (plS n f k) (k + 1) (i + 1) (zup2 T1 i i (T1 i i + P (n - (k + 1) + 1))) := fun a b ha hb => by
  unfold zup2
  rw [h.1 _ (by omega) (by omega)]
  by_cases q : a = i
  · subst q
    rw [if_pos rfl]
    by_cases q2 : b = a
    · subst q2
      rw [if_pos rfl, if_pos ⟨rfl, by omega⟩, h1 b b ha ha, if_neg (by omega)]
    · rw [if_neg q2, if_neg (fun z => q2 z.1.symm), h1 a b ha hb, if_neg (by omega)]
  · rw [if_neg q, h1 a b ha hb]
    by_cases q2 : a = b ∧ a < i
    · rw [if_pos q2, if_pos ⟨q2.1, by omega⟩]
    · rw [if_neg q2, if_neg (by omega)]
theorem dgi_end {n : Nat} {f : Nat → Int32} {k : Nat} {T1 T2 : Nat → Nat → Int64} (h : dgi n (plS n f k) (k + 1) n T1) (h2 : ∀ a b, a < n → b < n → T2 a b = awr f T1 a b n) : ∀ a b, a < n → b < n → T2 a b = plM n f (plS n f k) (k + 1) a b := fun a b ha hb => by
  rw [h2 a b ha hb]
  refine awr_cong n (fun x hx => ?_)
  rw [h x b hx hb]
  unfold plD
  by_cases q : x = b
  · rw [if_pos ⟨q, hx⟩, if_pos q]
  · rw [if_neg (fun z => q z.1), if_neg q]
theorem nI_l0 {k : Nat} (h1 : 1 ≤ k) (h2 : k < 100) : ¬ (nI k).toInt64 = 0 := by
  have : ∀ k : Fin 100, 1 ≤ k.val → ¬ (nI k.val).toInt64 = 0 := by decide +kernel
  exact this ⟨k, h2⟩ h1
abbrev wPl (n : Nat) (d : Int32) (f : Nat → Int32) (P : Nat → Int64) (T : Nat → Nat → Int64) : List zE := [zH, eNet 2 (nI n) d, zAi 0 24 f, zAl 1 (n + 1) P, zMl 5 1 n n T]
theorem c_poly (n : Nat) (d : Int32) (f : Nat → Int32) (hn : n ≤ 12) (hout : ∀ a, a < n → ∀ b, n ≤ b → bt (f a) b = false) :
    zCtr yX10_poly cX10_poly 8 (some (.array .long)) 2 320 7400 [zr 1 0] [zH, eNet 2 (nI n) d, zAi 0 24 f] (fun r w => r = some (zr 3 0) ∧ ∃ P T, w = wPl n d f P T ∧ ∀ j, j ≤ n → P j = (plS n f n).1 j) zNx := by
  refine z_start (by decide) [some (zr 1 0), none, none, none, none, none, none, none] rfl (fun _ => Nat.le_of_ble_eq_true rfl) (fun _ => rfl) (fun X F E hno hin => ?_)
  have hnn : n * n ≤ 144 := Nat.mul_le_mul hn hn
  have dia : ∀ (q : Nat) (P : Nat → Int64) (T : Nat → Nat → Int64), q < n → pli n f q P T → (∀ T1, dgi n (plS n f q) (q + 1) n T1 → Z X [some (zr 1 0), some (zi (nI n)), some (zr 3 0), some (zr 4 0), some (zi (nI (q + 1))), none, none, none] [] (wPl n d f P T1) (14 + 25 * q) (169 + 600 * q) 64) →
      ∀ (m i : Nat) (T1 : Nat → Nat → Int64), n - i < m → i ≤ n → dgi n (plS n f q) (q + 1) i T1 → Z X [some (zr 1 0), some (zi (nI n)), some (zr 3 0), some (zr 4 0), some (zi (nI (q + 1))), some (zi (nI i)), none, none] [] (wPl n d f P T1) (14 + 25 * q) (169 + 600 * q) 34 := by
    intro q P T hq hpl kk m
    induction m with
    | zero => intro i T1 hm; omega
    | succ m ih =>
      intro i T1 hm hi hT
      refine z_iload F dX10_poly_34 rfl ?_
      refine z_iload_n F dX10_poly_36 rfl ?_
      refine z_icmp_geN F (by omega) (by omega) (tgt := 64) dX10_poly_37 (by decide) (fun c_37 => ?_) (fun c_37 => ?_)
      · rw [show i = n by omega] at hT
        refine z_loc _ ?_ (kk T1 hT)
        exact ⟨rfl, rfl, rfl, rfl, rfl, trivial⟩
      · refine z_aload_n F dX10_poly_40 rfl ?_
        refine z_iload F dX10_poly_41 rfl ?_
        refine z_aaldMN F rfl (Or.inr (Or.inl rfl)) (by omega) (by omega) dX10_poly_43 ?_
        refine z_iload F dX10_poly_44 rfl ?_
        refine z_dup2 F dX10_poly_46 rfl rfl ?_
        refine z_laldMN F rfl (by omega) (by omega) (by omega) rfl dX10_poly_47 ?_
        refine z_aload_n F dX10_poly_48 rfl ?_
        refine z_iload_n F dX10_poly_49 rfl ?_
        refine z_iload F dX10_poly_50 rfl ?_
        refine z_isubN F (by omega) dX10_poly_52 ?_
        refine z_iconst F (nI 1) dX10_poly_53 rfl ?_
        refine z_iaddN F dX10_poly_54 ?_
        refine z_laldN F rfl (by omega) (by omega) rfl dX10_poly_55 ?_
        refine z_ladd F dX10_poly_56 ?_
        refine z_lastMN F rfl (by omega) (by omega) (by omega) dX10_poly_57 ?_
        refine z_weq (w' := [_, _, _, _, _]) rfl ?_
        refine z_iincN F 1 dX10_poly_58 rfl rfl ?_
        refine z_leq (L' := [_, _, _, _, _, _, _, _]) rfl ?_
        refine z_goto F (tgt := 34) dX10_poly_61 (by decide) ?_
        exact ih (i + 1) _ (by omega) (by omega) (dgi_step hpl hq hT (by omega))
  have trc : ∀ (q : Nat) (P : Nat → Int64) (T T2 : Nat → Nat → Int64), q < n → pli n f q P T → (∀ a b, a < n → b < n → T2 a b = plM n f (plS n f q) (q + 1) a b) → (∀ P', pli n f (q + 1) P' T2 → Z X [some (zr 1 0), some (zi (nI n)), some (zr 3 0), some (zr 4 0), some (zi (nI (q + 1 + 1))), none, none, none] [] (wPl n d f P' T2) (14 + 25 * (q + 1)) (169 + 600 * (q + 1)) 25) →
      ∀ (m x : Nat), n - x < m → x ≤ n → Z X [some (zr 1 0), some (zi (nI n)), some (zr 3 0), some (zr 4 0), some (zi (nI (q + 1))), some (zl (ltr T2 x)), none, some (zi (nI x))] [] (wPl n d f P T2) (14 + 25 * (q + 1)) (169 + 600 * (q + 1)) 76 := by
    intro q P T T2 hq hpl hT2 kk m
    induction m with
    | zero => intro x hm; omega
    | succ m ih =>
      intro x hm hx
      refine z_iload F dX10_poly_76 rfl ?_
      refine z_iload_n F dX10_poly_78 rfl ?_
      refine z_icmp_geN F (by omega) (by omega) (tgt := 100) dX10_poly_79 (by decide) (fun c_79 => ?_) (fun c_79 => ?_)
      · refine z_aload_n F dX10_poly_100 rfl ?_
        refine z_iload_n F dX10_poly_101 rfl ?_
        refine z_iload F dX10_poly_102 rfl ?_
        refine z_isubN F (by omega) dX10_poly_104 ?_
        refine z_lload F dX10_poly_105 rfl ?_
        refine z_lneg F dX10_poly_107 ?_
        refine z_iload F dX10_poly_108 rfl ?_
        refine z_i2l F dX10_poly_110 ?_
        refine z_ldiv F dX10_poly_111 (nI_l0 (by omega) (by omega)) ?_
        refine z_lastN F rfl (by omega) (by omega) dX10_poly_112 ?_
        refine z_weq (w' := [_, _, _, _, _]) rfl ?_
        refine z_iincN F 1 dX10_poly_113 rfl rfl ?_
        refine z_leq (L' := [_, _, _, _, _, _, _, _]) rfl ?_
        refine z_goto F (tgt := 25) dX10_poly_116 (by decide) ?_
        rw [show x = n by omega]
        refine z_loc _ ?_ (kk _ (pli_next hpl hq hT2 (fun j h1 h2 => rfl)))
        exact ⟨rfl, rfl, rfl, rfl, rfl, trivial⟩
      · refine z_lload F dX10_poly_82 rfl ?_
        refine z_aload_n F dX10_poly_84 rfl ?_
        refine z_iload F dX10_poly_85 rfl ?_
        refine z_aaldMN F rfl (Or.inr (Or.inl rfl)) (by omega) (by omega) dX10_poly_87 ?_
        refine z_iload F dX10_poly_88 rfl ?_
        refine z_laldMN F rfl (by omega) (by omega) (by omega) rfl dX10_poly_90 ?_
        refine z_ladd F dX10_poly_91 ?_
        refine z_lstore F dX10_poly_92 (Nat.le_of_ble_eq_true rfl) ?_
        refine z_leq (L' := [_, _, _, _, _, _, _, _]) rfl ?_
        refine z_iincN F 1 dX10_poly_94 rfl rfl ?_
        refine z_leq (L' := [_, _, _, _, _, _, _, _]) rfl ?_
        refine z_goto F (tgt := 76) dX10_poly_97 (by decide) ?_
        exact ih (x + 1) (by omega) (by omega)
  have outer : ∀ (m q : Nat) (P : Nat → Int64) (T : Nat → Nat → Int64), n - q < m → q ≤ n → pli n f q P T → Z X [some (zr 1 0), some (zi (nI n)), some (zr 3 0), some (zr 4 0), some (zi (nI (q + 1))), none, none, none] [] (wPl n d f P T) (14 + 25 * q) (169 + 600 * q) 25 := by
    intro m
    induction m with
    | zero => intro q P T hm; omega
    | succ m ih =>
      intro q P T hm hq hpl
      have mid : ∀ T1, q < n → dgi n (plS n f q) (q + 1) n T1 → Z X [some (zr 1 0), some (zi (nI n)), some (zr 3 0), some (zr 4 0), some (zi (nI (q + 1))), none, none, none] [] (wPl n d f P T1) (14 + 25 * q) (169 + 600 * q) 64 := by
        intro T1 hqn hT1
        refine z_aload_n F dX10_poly_64 rfl ?_
        refine z_aload_n F dX10_poly_65 rfl ?_
        refine z_callS F (c_behind n d f T1 (by omega) hout) 2 rfl (lw_S q889 q890 q133 q891) (by decide +kernel) ⟨Nat.le_of_ble_eq_true rfl, Nat.le_of_ble_eq_true rfl⟩ ⟨by omega, by omega⟩ [0, 1, 2, 4] 5 ⟨rfl, rfl, rfl, ⟨Or.inl rfl, Or.inr rfl, Or.inr rfl, Or.inr rfl, trivial⟩⟩ (fun h => nomatch h) (Nat.le_of_ble_eq_true rfl) ⟨⟨Or.inr trivial, Or.inl rfl, Or.inl rfl, Or.inr trivial, Or.inl rfl, trivial⟩, rfl, rfl, rfl, Nat.le_of_ble_eq_true rfl⟩ rfl rfl dX10_poly_66 (fun r_66 w_66 hp => ?_) (fun _ _ h => h.elim)
        obtain ⟨rfl, T2, rfl, hT2⟩ := hp
        refine z_weq (w' := [zH, zO _ [zi _, zi _, zr _ _], zAi 0 24 _, zAl 1 (n + 1) _, zMl 5 1 n n _, zMl 5 1 n n _]) rfl ?_
        refine z_seq (S' := zr _ _ :: _) rfl ?_
        refine z_astore_n F dX10_poly_69 (Nat.le_of_ble_eq_true rfl) ?_
        refine z_leq (L' := [_, _, _, _, _, _, _, _]) rfl ?_
        refine z_repl F 4 (w0 := [_, _, _, _]) [some (zr 1 0), some (zi (nI _)), some (zr 3 0), some (zr 4 0), some (zi (nI _)), none, none, none] rfl rfl (Nat.le_of_ble_eq_true rfl) ⟨trivial, rfl, trivial, trivial, trivial⟩ rfl ?_
        refine z_weq (w' := [zH, zO _ [zi _, zi _, zr _ _], zAi 0 24 _, zAl 1 (n + 1) _, zMl 5 1 n n _]) rfl ?_
        refine z_lconst F 0 dX10_poly_70 rfl ?_
        refine z_lstore F dX10_poly_71 (Nat.le_of_ble_eq_true rfl) ?_
        refine z_leq (L' := [_, _, _, _, _, _, _, _]) rfl ?_
        refine z_iconst F (nI 0) dX10_poly_73 rfl ?_
        refine z_istore F dX10_poly_74 (Nat.le_of_ble_eq_true rfl) ?_
        refine z_leq (L' := [_, _, _, _, _, _, _, _]) rfl ?_
        refine z_widen (k' := 14 + 25 * (q + 1)) (n' := 169 + 600 * (q + 1)) (by omega) (by omega) ?_
        exact trc q P T T2 hqn hpl (dgi_end hT1 hT2) (fun P' hP' => ih (q + 1) P' T2 (by omega) (by omega) hP') (n + 1) 0 (by omega) (by omega)
      refine z_iload F dX10_poly_25 rfl ?_
      refine z_iload_n F dX10_poly_27 rfl ?_
      refine z_icmp_gtN F (by omega) (by omega) (tgt := 119) dX10_poly_28 (by decide) (fun c_28 => ?_) (fun c_28 => ?_)
      · refine z_aload_n F dX10_poly_119 rfl ?_
        exact z_aret F E rfl (Or.inr ⟨_, rfl⟩) dX10_poly_120 (by omega) (by omega) (⟨rfl, P, T, rfl, fun j hj => by have := hpl.1 j (by omega) hj; rwa [show q = n by omega] at this⟩)
      · refine z_iconst F (nI 0) dX10_poly_31 rfl ?_
        refine z_istore F dX10_poly_32 (Nat.le_of_ble_eq_true rfl) ?_
        refine z_leq (L' := [_, _, _, _, _, _, _, _]) rfl ?_
        exact dia q P T (by omega) hpl (fun T1 hT1 => mid T1 (by omega) hT1) (n + 1) 0 T (by omega) (by omega) (dgi_0 hpl)
  refine z_aload_n F dX10_poly_0 rfl ?_
  refine z_getN F zC5 (f := 0) rfl (Nat.le_of_ble_eq_true rfl) q240 rfl dX10_poly_1 ?_
  refine z_istore_n F dX10_poly_4 (Nat.le_of_ble_eq_true rfl) ?_
  refine z_leq (L' := [_, _, _, _, _, _, _, _]) rfl ?_
  refine z_iload_n F dX10_poly_5 rfl ?_
  refine z_iconst F (nI 1) dX10_poly_6 rfl ?_
  refine z_iaddN F dX10_poly_7 ?_
  refine z_newaJ F (n + 1) 3 q893 (nI_pos (by omega)) (zcl_n (by omega)) (by omega) rfl (Nat.le_of_ble_eq_true rfl) ⟨trivial, rfl, trivial, trivial⟩ rfl rfl ⟨by omega, by omega⟩ dX10_poly_8 ?_
  refine z_weq (w' := [_, _, _, _]) rfl ?_
  refine z_astore_n F dX10_poly_10 (Nat.le_of_ble_eq_true rfl) ?_
  refine z_leq (L' := [_, _, _, _, _, _, _, _]) rfl ?_
  refine z_aload_n F dX10_poly_11 rfl ?_
  refine z_iload_n F dX10_poly_12 rfl ?_
  refine z_lconst F 1 dX10_poly_13 rfl ?_
  refine z_lastN F rfl (by omega) (by omega) dX10_poly_14 ?_
  refine z_weq (w' := [_, _, _, _]) rfl ?_
  refine z_iload_n F dX10_poly_15 rfl ?_
  refine z_iload_n F dX10_poly_16 rfl ?_
  refine z_multiJ F n n 4 q887 q888 q893 (nI_pos (by omega)) (zcl_n (by omega)) (nI_pos (by omega)) (zcl_n (by omega)) (⟨by omega, by omega⟩) rfl (Nat.le_of_ble_eq_true rfl) ⟨trivial, rfl, trivial, trivial, trivial⟩ rfl rfl ⟨by omega, by omega⟩ dX10_poly_17 ?_
  refine z_weq (w' := [_, _, _, _, _]) rfl ?_
  refine z_astore_n F dX10_poly_21 (Nat.le_of_ble_eq_true rfl) ?_
  refine z_leq (L' := [_, _, _, _, _, _, _, _]) rfl ?_
  refine z_iconst F (nI 1) dX10_poly_22 rfl ?_
  refine z_istore F dX10_poly_23 (Nat.le_of_ble_eq_true rfl) ?_
  refine z_leq (L' := [_, _, _, _, _, _, _, _]) rfl ?_
  refine z_widen (k' := 14 + 25 * 0) (n' := 169 + 600 * 0) (by omega) (by omega) ?_
  exact outer (n + 1) 0 _ _ (by omega) (by omega) (pli_0 (if_pos rfl))
end C68
