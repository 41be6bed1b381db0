/-! closed walks -/
section C70
def tkS (n : Nat) (f : Nat → Int32) : Nat → Nat → Nat → Int64
  | 0 => fun i j => if i = j then 1 else 0
  | k + 1 => fun i j => awr f (tkS n f k) i j n
def tki (n i : Nat) (T : Nat → Nat → Int64) : Prop := ∀ a b, a < n → b < n → T a b = if a = b ∧ a < i then 1 else 0
theorem tki_step {n i : Nat} {T : Nat → Nat → Int64} (h : tki n i T) : tki n (i + 1) (zup2 T i i 1) := fun a b ha hb => by
  unfold zup2
  by_cases q : a = i
  · subst q
    rw [if_pos rfl]
    by_cases q2 : b = a
    · subst q2
      rw [if_pos rfl, if_pos ⟨rfl, by omega⟩]
    · rw [if_neg q2, h a b ha hb, if_neg (by omega), if_neg (by omega)]
  · rw [if_neg q, h a b ha hb]
    by_cases q2 : a = b ∧ a < i
    · rw [if_pos q2, if_pos ⟨q2.1, by omega⟩]
    · rw [if_neg q2, if_neg (by omega)]
theorem tki_end {n : Nat} {f : Nat → Int32} {T : Nat → Nat → Int64} (h : tki n n T) : ∀ a b, a < n → b < n → T a b = tkS n f 0 a b := fun a b ha hb => by
  rw [h a b ha hb]
  show _ = if a = b then (1 : Int64) else 0
  by_cases q : a = b
  · rw [if_pos ⟨q, ha⟩, if_pos q]
  · rw [if_neg (fun z => q z.1), if_neg q]
abbrev wWk (n : Nat) (d : Int32) (f : Nat → Int32) (T : Nat → Nat → Int64) : List zE := [zH, eNet 2 (nI n) d, zAi 0 24 f, zMl 5 1 n n T]
theorem c_xwalks (n : Nat) (d : Int32) (f : Nat → Int32) (k : Nat) (hn : n ≤ 24) (hk : k ≤ 10) (hout : ∀ a, a < n → ∀ b, n ≤ b → bt (f a) b = false) :
    zCtr yX10_walks cX10_walks 6 (some .long) 2 275 6600 [zr 1 0, zi (nI k)] [zH, eNet 2 (nI n) d, zAi 0 24 f] (fun r w => r = some (zl (ltr (tkS n f k) n)) ∧ w = [zH, eNet 2 (nI n) d, zAi 0 24 f]) zNx := by
  refine z_start (by decide) [some (zr 1 0), some (zi (nI k)), none, none, none, none] rfl (fun _ => Nat.le_of_ble_eq_true rfl) (fun _ => rfl) (fun X F E hno hin => ?_)
  have hnn : n * n ≤ 576 := Nat.mul_le_mul hn hn
  have sum : ∀ (T : Nat → Nat → Int64), (∀ a b, a < n → b < n → T a b = tkS n f k a b) → ∀ (m x : Nat), n - x < m → x ≤ n → Z X [some (zr 1 0), some (zi (nI k)), some (zr 3 0), some (zl (ltr T x)), none, some (zi (nI x))] [] (wWk n d f T) 275 6600 59 := by
    intro T hT m
    induction m with
    | zero => intro x hm; omega
    | succ m ih =>
      intro x hm hx
      refine z_iload F dX10_walks_59 rfl ?_
      refine z_aload_n F dX10_walks_61 rfl ?_
      refine z_getN F zC5 (f := 0) rfl (Nat.le_of_ble_eq_true rfl) q240 rfl dX10_walks_62 ?_
      refine z_icmp_geN F (by omega) (by omega) (tgt := 84) dX10_walks_65 (by decide) (fun c_65 => ?_) (fun c_65 => ?_)
      · refine z_take F 3 [zH, zO _ [zi _, zi _, zr _ _], zAi 0 24 _] rfl ?_
        refine z_lload_n F dX10_walks_84 rfl ?_
        exact z_lret F E rfl dX10_walks_85 (by omega) (by omega) (⟨by rw [show x = n by omega, ltr_cong n (fun a ha => hT a a ha ha)], rfl⟩)
      · refine z_lload_n F dX10_walks_68 rfl ?_
        refine z_aload_n F dX10_walks_69 rfl ?_
        refine z_iload F dX10_walks_70 rfl ?_
        refine z_aaldMN F rfl (Or.inr (Or.inl rfl)) (by omega) (by omega) dX10_walks_72 ?_
        refine z_iload F dX10_walks_73 rfl ?_
        refine z_laldMN F rfl (by omega) (by omega) (by omega) rfl dX10_walks_75 ?_
        refine z_ladd F dX10_walks_76 ?_
        refine z_lstore_n F dX10_walks_77 (Nat.le_of_ble_eq_true rfl) ?_
        refine z_leq (L' := [_, _, _, _, _, _]) rfl ?_
        refine z_iincN F 1 dX10_walks_78 rfl rfl ?_
        refine z_leq (L' := [_, _, _, _, _, _]) rfl ?_
        refine z_goto F (tgt := 59) dX10_walks_81 (by decide) ?_
        exact ih (x + 1) (by omega) (by omega)
  have pow : ∀ (m i : Nat) (T : Nat → Nat → Int64), k - i < m → i ≤ k → (∀ a b, a < n → b < n → T a b = tkS n f i a b) → Z X [some (zr 1 0), some (zi (nI k)), some (zr 3 0), some (zi (nI i)), none, none] [] (wWk n d f T) (25 + 25 * i) (600 + 600 * i) 37 := by
    intro m
    induction m with
    | zero => intro i T hm; omega
    | succ m ih =>
      intro i T hm hi hT
      refine z_iload_n F dX10_walks_37 rfl ?_
      refine z_iload_n F dX10_walks_38 rfl ?_
      refine z_icmp_geN F (by omega) (by omega) (tgt := 54) dX10_walks_39 (by decide) (fun c_39 => ?_) (fun c_39 => ?_)
      · refine z_lconst F 0 dX10_walks_54 rfl ?_
        refine z_lstore_n F dX10_walks_55 (Nat.le_of_ble_eq_true rfl) ?_
        refine z_leq (L' := [_, _, _, _, _, _]) rfl ?_
        refine z_iconst F (nI 0) dX10_walks_56 rfl ?_
        refine z_istore F dX10_walks_57 (Nat.le_of_ble_eq_true rfl) ?_
        refine z_leq (L' := [_, _, _, _, _, _]) rfl ?_
        refine z_widen (k' := 275) (n' := 6600) (by omega) (by omega) ?_
        exact sum T (by rw [show k = i by omega]; exact hT) (n + 1) 0 (by omega) (by omega)
      · refine z_aload_n F dX10_walks_42 rfl ?_
        refine z_aload_n F dX10_walks_43 rfl ?_
        refine z_callS F (c_behind n d f T hn hout) 2 rfl (lw_S q889 q890 q133 q891) (by decide +kernel) ⟨Nat.le_of_ble_eq_true rfl, Nat.le_of_ble_eq_true rfl⟩ ⟨by omega, by omega⟩ [0, 1, 2, 3] 4 ⟨rfl, rfl, rfl, ⟨Or.inl rfl, Or.inr rfl, Or.inr rfl, Or.inr rfl, trivial⟩⟩ (fun h => nomatch h) (Nat.le_of_ble_eq_true rfl) ⟨⟨Or.inr trivial, Or.inl rfl, Or.inl rfl, Or.inl rfl, trivial⟩, rfl, rfl, rfl, Nat.le_of_ble_eq_true rfl⟩ rfl rfl dX10_walks_44 (fun r_44 w_44 hp => ?_) (fun _ _ h => h.elim)
        obtain ⟨rfl, T2, rfl, hT2⟩ := hp
        refine z_weq (w' := [zH, zO _ [zi _, zi _, zr _ _], zAi 0 24 _, zMl 5 1 n n _, zMl 5 1 n n _]) rfl ?_
        refine z_seq (S' := zr _ _ :: _) rfl ?_
        refine z_astore_n F dX10_walks_47 (Nat.le_of_ble_eq_true rfl) ?_
        refine z_leq (L' := [_, _, _, _, _, _]) rfl ?_
        refine z_repl F 3 (w0 := [_, _, _]) [some (zr 1 0), some (zi (nI _)), some (zr 3 0), some (zi (nI _)), none, none] rfl rfl (Nat.le_of_ble_eq_true rfl) ⟨trivial, rfl, trivial, trivial⟩ rfl ?_
        refine z_weq (w' := [zH, zO _ [zi _, zi _, zr _ _], zAi 0 24 _, zMl 5 1 n n _]) rfl ?_
        refine z_iincN F 1 dX10_walks_48 rfl rfl ?_
        refine z_leq (L' := [_, _, _, _, _, _]) rfl ?_
        refine z_goto F (tgt := 37) dX10_walks_51 (by decide) ?_
        refine z_widen (k' := 25 + 25 * (i + 1)) (n' := 600 + 600 * (i + 1)) (by omega) (by omega) ?_
        exact ih (i + 1) T2 (by omega) (by omega) (fun a b ha hb => (hT2 a b ha hb).trans (awr_cong n (fun x hx => hT x b hx hb)))
  have one : ∀ (m i : Nat) (T : Nat → Nat → Int64), n - i < m → i ≤ n → tki n i T → Z X [some (zr 1 0), some (zi (nI k)), some (zr 3 0), some (zi (nI i)), none, none] [] (wWk n d f T) 25 600 15 := by
    intro m
    induction m with
    | zero => intro i T hm; omega
    | succ m ih =>
      intro i T hm hi hT
      refine z_iload_n F dX10_walks_15 rfl ?_
      refine z_aload_n F dX10_walks_16 rfl ?_
      refine z_getN F zC5 (f := 0) rfl (Nat.le_of_ble_eq_true rfl) q240 rfl dX10_walks_17 ?_
      refine z_icmp_geN F (by omega) (by omega) (tgt := 35) dX10_walks_20 (by decide) (fun c_20 => ?_) (fun c_20 => ?_)
      · refine z_iconst F (nI 0) dX10_walks_35 rfl ?_
        refine z_istore_n F dX10_walks_36 (Nat.le_of_ble_eq_true rfl) ?_
        refine z_leq (L' := [_, _, _, _, _, _]) rfl ?_
        rw [show i = n by omega] at hT
        exact pow (k + 1) 0 T (by omega) (by omega) (tki_end hT)
      · refine z_aload_n F dX10_walks_23 rfl ?_
        refine z_iload_n F dX10_walks_24 rfl ?_
        refine z_aaldMN F rfl (Or.inr (Or.inl rfl)) (by omega) (by omega) dX10_walks_25 ?_
        refine z_iload_n F dX10_walks_26 rfl ?_
        refine z_lconst F 1 dX10_walks_27 rfl ?_
        refine z_lastMN F rfl (by omega) (by omega) (by omega) dX10_walks_28 ?_
        refine z_weq (w' := [_, _, _, _]) rfl ?_
        refine z_iincN F 1 dX10_walks_29 rfl rfl ?_
        refine z_leq (L' := [_, _, _, _, _, _]) rfl ?_
        refine z_goto F (tgt := 15) dX10_walks_32 (by decide) ?_
        exact ih (i + 1) _ (by omega) (by omega) (tki_step hT)
  refine z_aload_n F dX10_walks_0 rfl ?_
  refine z_getN F zC5 (f := 0) rfl (Nat.le_of_ble_eq_true rfl) q240 rfl dX10_walks_1 ?_
  refine z_aload_n F dX10_walks_4 rfl ?_
  refine z_getN F zC5 (f := 0) rfl (Nat.le_of_ble_eq_true rfl) q240 rfl dX10_walks_5 ?_
  refine z_multiJ F n n 3 q887 q888 q893 (nI_pos (by omega)) (zcl_n (by omega)) (nI_pos (by omega)) (zcl_n (by omega)) (⟨by omega, by omega⟩) rfl (Nat.le_of_ble_eq_true rfl) ⟨trivial, rfl, trivial, trivial⟩ rfl rfl ⟨by omega, by omega⟩ dX10_walks_8 ?_
  refine z_weq (w' := [_, _, _, _]) rfl ?_
  refine z_astore_n F dX10_walks_12 (Nat.le_of_ble_eq_true rfl) ?_
  refine z_leq (L' := [_, _, _, _, _, _]) rfl ?_
  refine z_iconst F (nI 0) dX10_walks_13 rfl ?_
  refine z_istore_n F dX10_walks_14 (Nat.le_of_ble_eq_true rfl) ?_
  refine z_leq (L' := [_, _, _, _, _, _]) rfl ?_
  refine z_widen (k' := 25) (n' := 600) (by omega) (by omega) ?_
  exact one (n + 1) 0 _ (by omega) (by omega) (fun a b _ _ => by rw [if_neg (by omega)])
end C70
