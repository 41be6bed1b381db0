/-! own numbers: the reference -/
section C72
def tbl (T : Nat → Int64) : Nat → Nat → Int64 := fun a b => T (12 * a + b)
theorem frmL {l : List Nat} {f g : Nat → Nat → Int64} {i j : Nat} {x : Int64} (a : frm l f g) (h : i ∈ l) : frm l f (zup2 g i j x) := fun k hk => by
  have : k ≠ i := fun q => hk (q ▸ h)
  rw [zup2_ne this]; exact a k hk
theorem zup2_eq {B : Nat → Nat → Int64} {i j b : Nat} {x : Int64} : zup2 B i j x i b = if b = j then x else B i b := by rw [zup2_row]
theorem tbl_up {T : Nat → Nat → Int64} {r i j a b : Nat} {x : Int64} (hj : j < 12) (hb : b < 12) : tbl (zup2 T r (12 * i + j) x r) a b = zup2 (tbl (T r)) i j x a b := by
  unfold tbl
  rw [zup2_eq]
  unfold zup2
  by_cases q : a = i
  · subst q
    rw [if_pos rfl]
    by_cases q2 : b = j
    · subst q2; rw [if_pos rfl, if_pos rfl]
    · rw [if_neg q2, if_neg (by omega)]
  · rw [if_neg q, if_neg (by omega)]
def oti (n : Nat) (f : Nat → Int32) (T : Nat → Nat → Int64) (i j : Nat) (O : Nat → Int64) : Prop := ∀ a b, a < n → b < n → (a < i ∨ a = i ∧ b < j) → O (12 * a + b) = awr f T a b n
theorem oti_step {n : Nat} {f : Nat → Int32} {T : Nat → Nat → Int64} {i j : Nat} {B : Nat → Nat → Int64} (h : oti n f T i j (B 31)) (hn : n ≤ 12) (hj : j < n) : oti n f T i (j + 1) (zup2 B 31 (12 * i + j) (awr f T i j n) 31) := fun a b ha hb hh => by
  rw [zup2_eq]
  by_cases q : 12 * a + b = 12 * i + j
  · rw [if_pos q, show a = i by omega, show b = j by omega]
  · rw [if_neg q]
    exact h a b ha hb (by omega)
theorem oti_row {n : Nat} {f : Nat → Int32} {T : Nat → Nat → Int64} {i : Nat} {O : Nat → Int64} (h : oti n f T i n O) : oti n f T (i + 1) 0 O := fun a b ha hb hh => h a b ha hb (by omega)
theorem c_mpolys (F0 : Nat → Int32) (G : Nat → Int64) (A : Nat → Nat → Int32) (B : Nat → Nat → Int64) (n : Nat) (f : Nat → Int32) (hn : n ≤ 12) (hF : F0 4 = nI n) (hf : ∀ k, k < n → A 6 k = f k) :
    zCtr yX6_polys cX6_polys 10 none 1 0 0 [zr 1 0] [zH, zG F0 G A B] (fun r w => r = none ∧ ∃ B', w = [zH, zG F0 G A B'] ∧ frm [29, 30, 31] B B' ∧ ∀ j, j ≤ n → B' 29 j = (plS n f n).1 j) zNx := by
  refine z_start (by decide) [some (zr 1 0), none, none, none, none, none, none, none, none, none] rfl (fun _ => Nat.le_of_ble_eq_true rfl) (fun _ => rfl) (fun X F E hno hin => ?_)
  -- the product's entry
  have ent : ∀ (q i j : Nat) (s : Int64) (B1 : Nat → Nat → Int64), i < n → j < n → Z X [some (zr 1 0), some (zi (nI n)), some (zi (nI (q + 1))), some (zl s), none, some (zi (nI i)), some (zi (nI j)), some (zl (awr f (tbl (B1 30)) i j n)), none, none] [] [zH, zG F0 G A B1] 0 0 145 →
      ∀ (m x : Nat), n - x < m → x ≤ n → Z X [some (zr 1 0), some (zi (nI n)), some (zi (nI (q + 1))), some (zl s), none, some (zi (nI i)), some (zi (nI j)), some (zl (awr f (tbl (B1 30)) i j x)), none, some (zi (nI x))] [] [zH, zG F0 G A B1] 0 0 104 := by
    intro q i j s B1 hi hj kk m
    induction m with
    | zero => intro x hm; omega
    | succ m ih =>
      intro x hm hx
      refine z_iload F dX6_polys_104 rfl ?_
      refine z_iload_n F dX6_polys_106 rfl ?_
      refine z_icmp_geN F (by omega) (by omega) (tgt := 145) dX6_polys_107 (by decide) (fun c_107 => ?_) (fun c_107 => ?_)
      · rw [show x = n by omega]
        refine z_loc _ ?_ kk
        exact ⟨rfl, rfl, rfl, rfl, rfl, rfl, rfl, trivial⟩
      · refine z_aload_n F dX6_polys_110 rfl ?_
        refine z_iload F dX6_polys_111 rfl ?_
        refine z_iload F dX6_polys_113 rfl ?_
        refine z_callV F (c_isJoined _ _ _ _ i x (by omega) (by omega)) 2 rfl (lw_V q1748 q1750 qs46 q117 q1751) (by decide +kernel) ⟨Nat.le_of_ble_eq_true rfl, Nat.le_of_ble_eq_true rfl⟩ ⟨by omega, by omega⟩ [0, 1] 2 ⟨rfl, rfl, rfl, ⟨Or.inl rfl, Or.inr rfl, trivial⟩⟩ (fun h => nomatch h) (Nat.le_of_ble_eq_true rfl) ⟨⟨Or.inr trivial, Or.inl rfl, trivial⟩, rfl, rfl, rfl, Nat.le_of_ble_eq_true rfl⟩ rfl zC6 (zat_G0 rfl) rfl dX6_polys_115 (fun r_115 w_115 hp => ?_) (fun _ _ h => h.elim)
        obtain ⟨rfl, rfl⟩ := hp
        rw [hf i hi]
        refine z_weq (w' := [zH, zG _ _ _ _]) rfl ?_
        refine z_seq (S' := zi _ :: _) rfl ?_
        refine z_if_eqB F (tgt := 139) dX6_polys_118 (by decide) (fun c_118 => ?_) (fun c_118 => ?_)
        · refine z_iincN F 1 dX6_polys_139 rfl rfl ?_
          refine z_leq (L' := [_, _, _, _, _, _, _, _, _, _]) rfl ?_
          refine z_goto F (tgt := 104) dX6_polys_142 (by decide) ?_
          have e := ih (x + 1) (by omega) (by omega)
          rw [awr_n c_118] at e
          exact e
        · refine z_lload F dX6_polys_121 rfl ?_
          refine z_aload_n F dX6_polys_123 rfl ?_
          refine z_ma F rfl 30 rfl (Nat.le_of_ble_eq_true rfl) rfl q1510 dX6_polys_124 ?_
          refine z_bipush F (nI 12) dX6_polys_127 rfl ?_
          refine z_iload F dX6_polys_129 rfl ?_
          refine z_imulN F dX6_polys_131 ?_
          refine z_iload F dX6_polys_132 rfl ?_
          refine z_iaddN F dX6_polys_134 ?_
          refine z_laldGN F rfl rfl (Nat.le_of_ble_eq_true rfl) (by omega) rfl dX6_polys_135 ?_
          refine z_ladd F dX6_polys_136 ?_
          refine z_lstore F dX6_polys_137 (Nat.le_of_ble_eq_true rfl) ?_
          refine z_leq (L' := [_, _, _, _, _, _, _, _, _, _]) rfl ?_
          refine z_iincN F 1 dX6_polys_139 rfl rfl ?_
          refine z_leq (L' := [_, _, _, _, _, _, _, _, _, _]) rfl ?_
          refine z_goto F (tgt := 104) dX6_polys_142 (by decide) ?_
          have e := ih (x + 1) (by omega) (by omega)
          rw [awr_y c_118] at e
          exact e
  have row : ∀ (q i : Nat) (s : Int64) (T0 P0 : Nat → Int64), i < n → (∀ B1, frm [29, 30, 31] B B1 → B1 30 = T0 → B1 29 = P0 → oti n f (tbl T0) (i + 1) 0 (B1 31) → Z X [some (zr 1 0), some (zi (nI n)), some (zi (nI (q + 1))), some (zl (s + awr f (tbl T0) i i n)), none, some (zi (nI (i + 1))), none, none, none, none] [] [zH, zG F0 G A B1] 0 0 83) →
      ∀ (m j : Nat) (B1 : Nat → Nat → Int64), n - j < m → j ≤ n → frm [29, 30, 31] B B1 → B1 30 = T0 → B1 29 = P0 → oti n f (tbl T0) i j (B1 31) → Z X [some (zr 1 0), some (zi (nI n)), some (zi (nI (q + 1))), some (zl s), none, some (zi (nI i)), some (zi (nI j)), none, none, none] [] [zH, zG F0 G A B1] 0 0 92 := by
    intro q i s T0 P0 hi kk m
    induction m with
    | zero => intro j B1 hm; omega
    | succ m ih =>
      intro j B1 hm hj hB h30 h29 ho
      have back : j < n → Z X [some (zr 1 0), some (zi (nI n)), some (zi (nI (q + 1))), some (zl s), none, some (zi (nI i)), some (zi (nI j)), some (zl (awr f (tbl (B1 30)) i j n)), none, none] [] [zH, zG F0 G A B1] 0 0 145 := by
        intro hjn
        refine z_aload_n F dX6_polys_145 rfl ?_
        refine z_ma F rfl 31 rfl (Nat.le_of_ble_eq_true rfl) rfl q1511 dX6_polys_146 ?_
        refine z_bipush F (nI 12) dX6_polys_149 rfl ?_
        refine z_iload F dX6_polys_151 rfl ?_
        refine z_imulN F dX6_polys_153 ?_
        refine z_iload F dX6_polys_154 rfl ?_
        refine z_iaddN F dX6_polys_156 ?_
        refine z_lload F dX6_polys_157 rfl ?_
        refine z_lastGN F rfl rfl (Nat.le_of_ble_eq_true rfl) (by omega) dX6_polys_159 ?_
        refine z_weq (w' := [_, _]) rfl ?_
        refine z_iincN F 1 dX6_polys_160 rfl rfl ?_
        refine z_leq (L' := [_, _, _, _, _, _, _, _, _, _]) rfl ?_
        refine z_goto F (tgt := 92) dX6_polys_163 (by decide) ?_
        refine z_loc _ ?_ (ih (j + 1) _ (by omega) (by omega) (frmL hB (by decide)) ((zup2_ne (by decide)).trans h30) ((zup2_ne (by decide)).trans h29) (by rw [h30]; exact oti_step ho hn hjn))
        exact ⟨rfl, rfl, rfl, rfl, rfl, rfl, trivial⟩
      refine z_iload F dX6_polys_92 rfl ?_
      refine z_iload_n F dX6_polys_94 rfl ?_
      refine z_icmp_geN F (by omega) (by omega) (tgt := 166) dX6_polys_95 (by decide) (fun c_95 => ?_) (fun c_95 => ?_)
      · have hjn : j = n := by omega
        subst hjn
        have ev : B1 31 (12 * i + i) = awr f (tbl T0) i i j := ho i i hi hi (Or.inr ⟨rfl, hi⟩)
        refine z_lload_n F dX6_polys_166 rfl ?_
        refine z_aload_n F dX6_polys_167 rfl ?_
        refine z_ma F rfl 31 rfl (Nat.le_of_ble_eq_true rfl) rfl q1511 dX6_polys_168 ?_
        refine z_bipush F (nI 12) dX6_polys_171 rfl ?_
        refine z_iload F dX6_polys_173 rfl ?_
        refine z_imulN F dX6_polys_175 ?_
        refine z_iload F dX6_polys_176 rfl ?_
        refine z_iaddN F dX6_polys_178 ?_
        refine z_laldGN F rfl rfl (Nat.le_of_ble_eq_true rfl) (by omega) rfl dX6_polys_179 ?_
        refine z_ladd F dX6_polys_180 ?_
        refine z_lstore_n F dX6_polys_181 (Nat.le_of_ble_eq_true rfl) ?_
        refine z_leq (L' := [_, _, _, _, _, _, _, _, _, _]) rfl ?_
        refine z_iincN F 1 dX6_polys_182 rfl rfl ?_
        refine z_leq (L' := [_, _, _, _, _, _, _, _, _, _]) rfl ?_
        refine z_goto F (tgt := 83) dX6_polys_185 (by decide) ?_
        refine z_loc _ ?_ (kk B1 hB h30 h29 (oti_row ho))
        exact ⟨rfl, rfl, rfl, by rw [ev], rfl, trivial⟩
      · refine z_lconst F 0 dX6_polys_98 rfl ?_
        refine z_lstore F dX6_polys_99 (Nat.le_of_ble_eq_true rfl) ?_
        refine z_leq (L' := [_, _, _, _, _, _, _, _, _, _]) rfl ?_
        refine z_iconst F (nI 0) dX6_polys_101 rfl ?_
        refine z_istore F dX6_polys_102 (Nat.le_of_ble_eq_true rfl) ?_
        refine z_leq (L' := [_, _, _, _, _, _, _, _, _, _]) rfl ?_
        exact ent q i j s B1 hi (by omega) (back (by omega)) (n + 1) 0 (by omega) (by omega)
  -- the copy
  have cpy : ∀ (q : Nat) (P0 O0 : Nat → Int64), (∀ B1, frm [29, 30, 31] B B1 → B1 29 = P0 → B1 31 = O0 → (∀ a, a < 144 → B1 30 a = O0 a) → Z X [some (zr 1 0), some (zi (nI n)), some (zi (nI (q + 1 + 1))), none, none, none, none, none, none, none] [] [zH, zG F0 G A B1] 0 0 36) →
      ∀ (m i : Nat) (B1 : Nat → Nat → Int64), 144 - i < m → i ≤ 144 → frm [29, 30, 31] B B1 → B1 29 = P0 → B1 31 = O0 → (∀ a, a < i → B1 30 a = O0 a) → Z X [some (zr 1 0), some (zi (nI n)), some (zi (nI (q + 1))), none, none, some (zi (nI i)), none, none, none, none] [] [zH, zG F0 G A B1] 0 0 204 := by
    intro q P0 O0 kk m
    induction m with
    | zero => intro i B1 hm; omega
    | succ m ih =>
      intro i B1 hm hi hB h29 h31 h
      refine z_iload F dX6_polys_204 rfl ?_
      refine z_sipush F (nI 144) dX6_polys_206 rfl ?_
      refine z_icmp_geN F (by omega) (by omega) (tgt := 232) dX6_polys_209 (by decide) (fun c_209 => ?_) (fun c_209 => ?_)
      · refine z_iincN F 1 dX6_polys_232 rfl rfl ?_
        refine z_leq (L' := [_, _, _, _, _, _, _, _, _, _]) rfl ?_
        refine z_goto F (tgt := 36) dX6_polys_235 (by decide) ?_
        refine z_loc _ ?_ (kk B1 hB h29 h31 (fun a ha => h a (by omega)))
        exact ⟨rfl, rfl, rfl, trivial⟩
      · refine z_aload_n F dX6_polys_212 rfl ?_
        refine z_ma F rfl 30 rfl (Nat.le_of_ble_eq_true rfl) rfl q1510 dX6_polys_213 ?_
        refine z_iload F dX6_polys_216 rfl ?_
        refine z_aload_n F dX6_polys_218 rfl ?_
        refine z_ma F rfl 31 rfl (Nat.le_of_ble_eq_true rfl) rfl q1511 dX6_polys_219 ?_
        refine z_iload F dX6_polys_222 rfl ?_
        refine z_laldGN F rfl rfl (Nat.le_of_ble_eq_true rfl) (by omega) rfl dX6_polys_224 ?_
        refine z_lastGN F rfl rfl (Nat.le_of_ble_eq_true rfl) (by omega) dX6_polys_225 ?_
        refine z_weq (w' := [_, _]) rfl ?_
        refine z_iincN F 1 dX6_polys_226 rfl rfl ?_
        refine z_leq (L' := [_, _, _, _, _, _, _, _, _, _]) rfl ?_
        refine z_goto F (tgt := 204) dX6_polys_229 (by decide) ?_
        exact ih (i + 1) _ (by omega) (by omega) (frmL hB (by decide)) ((zup2_ne (by decide)).trans h29) ((zup2_ne (by decide)).trans h31) (fun a ha => by
          rw [zup2_eq, h31]
          by_cases q2 : a = i
          · rw [if_pos q2, q2]
          · rw [if_neg q2]; exact h a (by omega))
  have rows : ∀ (q : Nat) (T0 P0 : Nat → Int64), (∀ B1, frm [29, 30, 31] B B1 → B1 30 = T0 → B1 29 = P0 → oti n f (tbl T0) n 0 (B1 31) → Z X [some (zr 1 0), some (zi (nI n)), some (zi (nI (q + 1))), some (zl (ltr (fun a b => awr f (tbl T0) a b n) n)), none, none, none, none, none, none] [] [zH, zG F0 G A B1] 0 0 188) →
      ∀ (m i : Nat) (B1 : Nat → Nat → Int64), n - i < m → i ≤ n → frm [29, 30, 31] B B1 → B1 30 = T0 → B1 29 = P0 → oti n f (tbl T0) i 0 (B1 31) → Z X [some (zr 1 0), some (zi (nI n)), some (zi (nI (q + 1))), some (zl (ltr (fun a b => awr f (tbl T0) a b n) i)), none, some (zi (nI i)), none, none, none, none] [] [zH, zG F0 G A B1] 0 0 83 := by
    intro q T0 P0 kk m
    induction m with
    | zero => intro i B1 hm; omega
    | succ m ih =>
      intro i B1 hm hi hB h30 h29 ho
      refine z_iload F dX6_polys_83 rfl ?_
      refine z_iload_n F dX6_polys_85 rfl ?_
      refine z_icmp_geN F (by omega) (by omega) (tgt := 188) dX6_polys_86 (by decide) (fun c_86 => ?_) (fun c_86 => ?_)
      · have hin : i = n := by omega
        subst hin
        refine z_loc _ ?_ (kk B1 hB h30 h29 ho)
        exact ⟨rfl, rfl, rfl, rfl, trivial⟩
      · refine z_iconst F (nI 0) dX6_polys_89 rfl ?_
        refine z_istore F dX6_polys_90 (Nat.le_of_ble_eq_true rfl) ?_
        refine z_leq (L' := [_, _, _, _, _, _, _, _, _, _]) rfl ?_
        exact row q i _ T0 P0 (by omega) (fun B2 g1 g2 g3 g4 => ih (i + 1) B2 (by omega) (by omega) g1 g2 g3 g4) (n + 1) 0 B1 (by omega) (by omega) hB h30 h29 ho
  have dia : ∀ (q : Nat), q < n → (∀ B1, frm [29, 30, 31] B B1 → (∀ j, n - q ≤ j → j ≤ n → B1 29 j = (plS n f q).1 j) → dgi n (plS n f q) (q + 1) n (tbl (B1 30)) → Z X [some (zr 1 0), some (zi (nI n)), some (zi (nI (q + 1))), none, none, none, none, none, none, none] [] [zH, zG F0 G A B1] 0 0 78) →
      ∀ (m i : Nat) (B1 : Nat → Nat → Int64), n - i < m → i ≤ n → frm [29, 30, 31] B B1 → (∀ j, n - q ≤ j → j ≤ n → B1 29 j = (plS n f q).1 j) → dgi n (plS n f q) (q + 1) i (tbl (B1 30)) → Z X [some (zr 1 0), some (zi (nI n)), some (zi (nI (q + 1))), some (zi (nI i)), none, none, none, none, none, none] [] [zH, zG F0 G A B1] 0 0 43 := by
    intro q hq kk m
    induction m with
    | zero => intro i B1 hm; omega
    | succ m ih =>
      intro i B1 hm hi hB hP hT
      refine z_iload_n F dX6_polys_43 rfl ?_
      refine z_iload_n F dX6_polys_44 rfl ?_
      refine z_icmp_geN F (by omega) (by omega) (tgt := 78) dX6_polys_45 (by decide) (fun c_45 => ?_) (fun c_45 => ?_)
      · rw [show i = n by omega] at hT
        refine z_loc _ ?_ (kk B1 hB hP hT)
        exact ⟨rfl, rfl, rfl, trivial⟩
      · refine z_aload_n F dX6_polys_48 rfl ?_
        refine z_ma F rfl 30 rfl (Nat.le_of_ble_eq_true rfl) rfl q1510 dX6_polys_49 ?_
        refine z_bipush F (nI 12) dX6_polys_52 rfl ?_
        refine z_iload_n F dX6_polys_54 rfl ?_
        refine z_imulN F dX6_polys_55 ?_
        refine z_iload_n F dX6_polys_56 rfl ?_
        refine z_iaddN F dX6_polys_57 ?_
        refine z_dup2 F dX6_polys_58 rfl rfl ?_
        refine z_laldGN F rfl rfl (Nat.le_of_ble_eq_true rfl) (by omega) rfl dX6_polys_59 ?_
        refine z_aload_n F dX6_polys_60 rfl ?_
        refine z_ma F rfl 29 rfl (Nat.le_of_ble_eq_true rfl) rfl q1509 dX6_polys_61 ?_
        refine z_iload_n F dX6_polys_64 rfl ?_
        refine z_iload_n F dX6_polys_65 rfl ?_
        refine z_isubN F (by omega) dX6_polys_66 ?_
        refine z_iconst F (nI 1) dX6_polys_67 rfl ?_
        refine z_iaddN F dX6_polys_68 ?_
        refine z_laldGN F rfl rfl (Nat.le_of_ble_eq_true rfl) (by omega) rfl dX6_polys_69 ?_
        refine z_ladd F dX6_polys_70 ?_
        refine z_lastGN F rfl rfl (Nat.le_of_ble_eq_true rfl) (by omega) dX6_polys_71 ?_
        refine z_weq (w' := [_, _]) rfl ?_
        refine z_iincN F 1 dX6_polys_72 rfl rfl ?_
        refine z_leq (L' := [_, _, _, _, _, _, _, _, _, _]) rfl ?_
        refine z_goto F (tgt := 43) dX6_polys_75 (by decide) ?_
        refine ih (i + 1) _ (by omega) (by omega) (frmL hB (by decide)) (fun j h1 h2 => by rw [zup2_ne (by decide)]; exact hP j h1 h2) (fun a b ha hb => ?_)
        rw [tbl_up (by omega) (by omega)]
        exact dgi_step (P := B1 29) (T := (plS n f q).2) ⟨hP, fun _ _ _ _ => rfl⟩ hq hT (by omega) a b ha hb
  have outer : ∀ (m q : Nat) (B1 : Nat → Nat → Int64), n - q < m → q ≤ n → frm [29, 30, 31] B B1 → pli n f q (B1 29) (tbl (B1 30)) → Z X [some (zr 1 0), some (zi (nI n)), some (zi (nI (q + 1))), none, none, none, none, none, none, none] [] [zH, zG F0 G A B1] 0 0 36 := by
    intro m
    induction m with
    | zero => intro q B1 hm; omega
    | succ m ih =>
      intro q B1 hm hq hB hpl
      have fin : ∀ (T0 P0 : Nat → Int64) (B2 : Nat → Nat → Int64), q < n → (∀ j, n - q ≤ j → j ≤ n → P0 j = (plS n f q).1 j) → dgi n (plS n f q) (q + 1) n (tbl T0) → frm [29, 30, 31] B B2 → B2 30 = T0 → B2 29 = P0 → oti n f (tbl T0) n 0 (B2 31) → Z X [some (zr 1 0), some (zi (nI n)), some (zi (nI (q + 1))), some (zl (ltr (fun a b => awr f (tbl T0) a b n) n)), none, none, none, none, none, none] [] [zH, zG F0 G A B2] 0 0 188 := by
        intro T0 P0 B2 hqn hP0 hT0 g1 g2 g3 g4
        refine z_aload_n F dX6_polys_188 rfl ?_
        refine z_ma F rfl 29 rfl (Nat.le_of_ble_eq_true rfl) rfl q1509 dX6_polys_189 ?_
        refine z_iload_n F dX6_polys_192 rfl ?_
        refine z_iload_n F dX6_polys_193 rfl ?_
        refine z_isubN F (by omega) dX6_polys_194 ?_
        refine z_lload_n F dX6_polys_195 rfl ?_
        refine z_lneg F dX6_polys_196 ?_
        refine z_iload_n F dX6_polys_197 rfl ?_
        refine z_i2l F dX6_polys_198 ?_
        refine z_ldiv F dX6_polys_199 (nI_l0 (by omega) (by omega)) ?_
        refine z_lastGN F rfl rfl (Nat.le_of_ble_eq_true rfl) (by omega) dX6_polys_200 ?_
        refine z_weq (w' := [_, _]) rfl ?_
        refine z_iconst F (nI 0) dX6_polys_201 rfl ?_
        refine z_istore F dX6_polys_202 (Nat.le_of_ble_eq_true rfl) ?_
        refine z_leq (L' := [_, _, _, _, _, _, _, _, _, _]) rfl ?_
        refine z_loc _ ?_ (cpy q _ (B2 31) (fun B3 k1 k2 k3 k4 => ih (q + 1) B3 (by omega) (by omega) k1 ?_) 145 0 _ (by omega) (by omega) (frmL g1 (by decide)) rfl (zup2_ne (by decide)) (fun a ha => by omega))
        · exact ⟨rfl, rfl, rfl, rfl, trivial⟩
        · have e3 : ∀ a b, a < n → b < n → tbl (B3 30) a b = awr f (tbl T0) a b n := fun a b ha hb => by
            show B3 30 (12 * a + b) = _
            rw [k4 _ (by omega)]
            exact g4 a b ha hb (Or.inl ha)
          refine pli_next (P := P0) (T := (plS n f q).2) ⟨hP0, fun _ _ _ _ => rfl⟩ hqn (dgi_end hT0 e3) (fun j h1 h2 => ?_)
          rw [k2, zup2_eq, g3, ltr_cong (M := fun a b => awr f (tbl T0) a b n) (M' := tbl (B3 30)) n (fun a ha => (e3 a a ha ha).symm)]
      have mid : ∀ (B2 : Nat → Nat → Int64), q < n → frm [29, 30, 31] B B2 → (∀ j, n - q ≤ j → j ≤ n → B2 29 j = (plS n f q).1 j) → dgi n (plS n f q) (q + 1) n (tbl (B2 30)) → Z X [some (zr 1 0), some (zi (nI n)), some (zi (nI (q + 1))), none, none, none, none, none, none, none] [] [zH, zG F0 G A B2] 0 0 78 := by
        intro B2 hqn hB2 hP2 hT2
        refine z_lconst F 0 dX6_polys_78 rfl ?_
        refine z_lstore_n F dX6_polys_79 (Nat.le_of_ble_eq_true rfl) ?_
        refine z_leq (L' := [_, _, _, _, _, _, _, _, _, _]) rfl ?_
        refine z_iconst F (nI 0) dX6_polys_80 rfl ?_
        refine z_istore F dX6_polys_81 (Nat.le_of_ble_eq_true rfl) ?_
        refine z_leq (L' := [_, _, _, _, _, _, _, _, _, _]) rfl ?_
        exact rows q (B2 30) (B2 29) (fun B3 g1 g2 g3 g4 => fin (B2 30) (B2 29) B3 hqn hP2 hT2 g1 g2 g3 g4) (n + 1) 0 B2 (by omega) (by omega) hB2 rfl rfl (fun a b ha hb hh => by omega)
      refine z_iload_n F dX6_polys_36 rfl ?_
      refine z_iload_n F dX6_polys_37 rfl ?_
      refine z_icmp_gtN F (by omega) (by omega) (tgt := 238) dX6_polys_38 (by decide) (fun c_38 => ?_) (fun c_38 => ?_)
      · exact z_vret F E rfl dX6_polys_238 (by omega) (by omega) (⟨rfl, B1, rfl, hB, fun j hj => by have := hpl.1 j (by omega) hj; rwa [show q = n by omega] at this⟩)
      · refine z_iconst F (nI 0) dX6_polys_41 rfl ?_
        refine z_istore_n F dX6_polys_42 (Nat.le_of_ble_eq_true rfl) ?_
        refine z_leq (L' := [_, _, _, _, _, _, _, _, _, _]) rfl ?_
        exact dia q (by omega) (fun B2 g1 g2 g3 => mid B2 (by omega) g1 g2 g3) (n + 1) 0 B1 (by omega) (by omega) hB hpl.1 (dgi_0 hpl)
  have zer : ∀ (m i : Nat) (B1 : Nat → Nat → Int64), 144 - i < m → i ≤ 144 → frm [29, 30, 31] B B1 → (∀ a, a < i → B1 30 a = 0) → Z X [some (zr 1 0), some (zi (nI n)), some (zi (nI i)), none, none, none, none, none, none, none] [] [zH, zG F0 G A B1] 0 0 7 := by
    intro m
    induction m with
    | zero => intro i B1 hm; omega
    | succ m ih =>
      intro i B1 hm hi hB h
      refine z_iload_n F dX6_polys_7 rfl ?_
      refine z_sipush F (nI 144) dX6_polys_8 rfl ?_
      refine z_icmp_geN F (by omega) (by omega) (tgt := 27) dX6_polys_11 (by decide) (fun c_11 => ?_) (fun c_11 => ?_)
      · refine z_aload_n F dX6_polys_27 rfl ?_
        refine z_ma F rfl 29 rfl (Nat.le_of_ble_eq_true rfl) rfl q1509 dX6_polys_28 ?_
        refine z_iload_n F dX6_polys_31 rfl ?_
        refine z_lconst F 1 dX6_polys_32 rfl ?_
        refine z_lastGN F rfl rfl (Nat.le_of_ble_eq_true rfl) (by omega) dX6_polys_33 ?_
        refine z_weq (w' := [_, _]) rfl ?_
        refine z_iconst F (nI 1) dX6_polys_34 rfl ?_
        refine z_istore_n F dX6_polys_35 (Nat.le_of_ble_eq_true rfl) ?_
        refine z_leq (L' := [_, _, _, _, _, _, _, _, _, _]) rfl ?_
        refine outer (n + 1) 0 _ (by omega) (by omega) (frmL hB (by decide)) ⟨fun j h1 h2 => ?_, fun a b ha hb => ?_⟩
        · rw [show j = n by omega, zup2_eq, if_pos rfl]; exact (if_pos rfl).symm
        · show zup2 B1 29 n 1 30 (12 * a + b) = 0
          rw [zup2_ne (by decide)]; exact h _ (by omega)
      · refine z_aload_n F dX6_polys_14 rfl ?_
        refine z_ma F rfl 30 rfl (Nat.le_of_ble_eq_true rfl) rfl q1510 dX6_polys_15 ?_
        refine z_iload_n F dX6_polys_18 rfl ?_
        refine z_lconst F 0 dX6_polys_19 rfl ?_
        refine z_lastGN F rfl rfl (Nat.le_of_ble_eq_true rfl) (by omega) dX6_polys_20 ?_
        refine z_weq (w' := [_, _]) rfl ?_
        refine z_iincN F 1 dX6_polys_21 rfl rfl ?_
        refine z_leq (L' := [_, _, _, _, _, _, _, _, _, _]) rfl ?_
        refine z_goto F (tgt := 7) dX6_polys_24 (by decide) ?_
        exact ih (i + 1) _ (by omega) (by omega) (frmL hB (by decide)) (fun a ha => by
          rw [zup2_eq]
          by_cases q2 : a = i
          · rw [if_pos q2]
          · rw [if_neg q2]; exact h a (by omega))
  refine z_aload_n F dX6_polys_0 rfl ?_
  refine z_mi F rfl 4 rfl (Nat.le_of_ble_eq_true rfl) rfl q1484 dX6_polys_1 ?_
  refine z_ieq (hF) ?_
  refine z_istore_n F dX6_polys_4 (Nat.le_of_ble_eq_true rfl) ?_
  refine z_leq (L' := [_, _, _, _, _, _, _, _, _, _]) rfl ?_
  refine z_iconst F (nI 0) dX6_polys_5 rfl ?_
  refine z_istore_n F dX6_polys_6 (Nat.le_of_ble_eq_true rfl) ?_
  refine z_leq (L' := [_, _, _, _, _, _, _, _, _, _]) rfl ?_
  exact zer 145 0 B (by omega) (by omega) frm.rf (fun a ha => by omega)
end C72
