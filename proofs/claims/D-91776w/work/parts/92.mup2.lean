/-! upward: the reference's operation -/
section C92
def vmI (x y : Int32) : Int32 := if x = -1 then y else if y = -1 then x else if y < x then y else x
def imx (x y : Int32) : Int32 := if x < y then y else x
noncomputable def ris (n : Nat) (f : Nat → Int32) (r a b : Nat) : Int32 := vmI (dI (Rv (upE n f r) (2 * a) (2 * b))) (dI (Rv (upE n f r) (2 * a) (2 * b + 1)))
noncomputable def usr (n : Nat) (f : Nat → Int32) (r a : Nat) (v : Int32) : Nat → Int32
  | 0 => v
  | b + 1 => usr n f r a v b + ris n f r a b
noncomputable def usa (n : Nat) (f : Nat → Int32) (r : Nat) : Nat → Int32
  | 0 => 0
  | a + 1 => usr n f r a (usa n f r a) n
noncomputable def umr (n : Nat) (f : Nat → Int32) (r a : Nat) (v : Int32) : Nat → Int32
  | 0 => v
  | b + 1 => imx (umr n f r a v b) (ris n f r a b)
noncomputable def uma (n : Nat) (f : Nat → Int32) (r : Nat) : Nat → Int32
  | 0 => 0
  | a + 1 => umr n f r a (uma n f r a) n
theorem vm_a {x y : Int32} (h : y = -1) : vmI x y = x := by
  unfold vmI
  by_cases q : x = -1
  · rw [if_pos q, h, q]
  · rw [if_neg q, if_pos h]
theorem vm_b {x y : Int32} (hy : ¬ y = -1) (h : x = -1) : vmI x y = y := by
  unfold vmI
  rw [if_pos h]
theorem vm_c {x y : Int32} (hy : ¬ y = -1) (hx : ¬ x = -1) (h : y ≤ x) : vmI x y = y := by
  unfold vmI
  rw [if_neg hx, if_neg hy]
  by_cases q : y < x
  · rw [if_pos q]
  · rw [if_neg q]; exact Int32.le_antisymm (Int32.not_lt.mp q) h
theorem vm_d {x y : Int32} (hy : ¬ y = -1) (hx : ¬ x = -1) (h : ¬ y ≤ x) : vmI x y = x := by
  unfold vmI
  rw [if_neg hx, if_neg hy, if_neg (fun q => h (Int32.le_of_lt q))]
theorem c_mupward_ok (F0 : Nat → Int32) (G : Nat → Int64) (A : Nat → Nat → Int32) (B : Nat → Nat → Int64) (j n d : Nat) (f : Nat → Int32) (r u : Nat) (hj : j < 8) (h : nok n d f) (hs : Slt A j n (nI d) f) (hr : r < n) (hu : u < 2) :
    zCtr yX6_upward cX6_upward 11 (some .int) 3 0 0 [zr 1 0, zi (nI j), zi (nI r), zi (nI u)] [zH, zG F0 G A B] (fun r' w => r' = some (zi (if cjn n f = true then (if u = 0 then uma n f r n else usa n f r n) else -1)) ∧ ∃ F' A', w = [zH, zG F' G A' B] ∧ F' 0 = nI 0 ∧ frm [0, 4, 5, 24, 25] F0 F' ∧ frm [6, 23, 72] A A') zNx := by
  refine z_start (by decide) [some (zr 1 0), some (zi (nI j)), some (zi (nI r)), some (zi (nI u)), none, none, none, none, none, none, none] rfl (fun _ => Nat.le_of_ble_eq_true rfl) (fun _ => rfl) (fun X F E hno hin => ?_)
  have hn1 := h.n1
  have hn := h.n24
  have hall : ∀ i, i < 32 → bt (allB n) i = true → i < n := fun i _ q => al_lt hn i q
  have main : ∀ (F1 : Nat → Int32) (A2 : Nat → Nat → Int32), F1 0 = nI 0 → frm [0, 4, 5, 24, 25] F0 F1 → frm [6, 23, 72] A A2 → F1 4 = nI n → (∀ k, k < n → A2 6 k = f k) → (∀ a k, a < n → k < n → A2 23 (24 * a + k) = dI (dst n f (allB n) a k)) → cjn n f = true → Z X [some (zr 1 0), some (zi (nI j)), some (zi (nI r)), some (zi (nI u)), none, none, none, none, none, none, none] [] [zH, zG F1 G A2 B] 0 0 58 := by
    intro F1 A2 f0 f1 f2 h4 hf hD0 hcj
    have hc := (cjn_conn h.n1 h.n24 (fun a b ha hb => h.sym ha hb)).mp hcj
    have hD : ∀ x y, x < n → y < n → A2 23 (24 * x + y) = nI (dN n f x y) := fun x y hx hy => by rw [hD0 x y hx hy, dN_eq hn hc hx hy]; rfl
    have row : ∀ (a : Nat) (g0 t0 : Int32), a < n → (∀ A3, frm [72] A2 A3 → Z X [some (zr 1 0), some (zi (nI j)), some (zi (nI r)), some (zi (nI u)), some (zi (umr n f r a g0 n)), some (zi (usr n f r a t0 n)), some (zi (nI (a + 1))), none, none, none, none] [] [zH, zG F1 G A3 B] 0 0 67) →
        ∀ (A3 : Nat → Nat → Int32), frm [72] A2 A3 → (∀ k, k < 48 → A3 72 k = dI (Rv (upE n f r) (2 * a) (sT k))) → ∀ (m b : Nat), n - b < m → b ≤ n → Z X [some (zr 1 0), some (zi (nI j)), some (zi (nI r)), some (zi (nI u)), some (zi (umr n f r a g0 b)), some (zi (usr n f r a t0 b)), some (zi (nI a)), some (zi (nI b)), none, none, none] [] [zH, zG F1 G A3 B] 0 0 86 := by
      intro a g0 t0 ha kk A3 hA3 hR m
      induction m with
      | zero => intro b hm; omega
      | succ m ih =>
        intro b hm hb
        have e1 : b < n → A3 72 b = dI (Rv (upE n f r) (2 * a) (2 * b)) := fun q => by rw [hR b (by omega), show sT b = 2 * b by unfold sT; omega]
        have e2 : b < n → A3 72 (b + 24) = dI (Rv (upE n f r) (2 * a) (2 * b + 1)) := fun q => by rw [hR (b + 24) (by omega), show sT (b + 24) = 2 * b + 1 by unfold sT; omega]
        have fold_ : ∀ v, b < n → v = ris n f r a b → Z X [some (zr 1 0), some (zi (nI j)), some (zi (nI r)), some (zi (nI u)), some (zi (umr n f r a g0 b)), some (zi (usr n f r a t0 b)), some (zi (nI a)), some (zi (nI b)), some (zi (A3 72 b)), some (zi (A3 72 (b + 24))), none] [zi v] [zH, zG F1 G A3 B] 0 0 142 := by
          intro v hbn hv'
          have i1 := ih (b + 1) (by omega) (by omega)
          rw [umr, usr, ← hv'] at i1
          refine z_istore F dX6_upward_142 (Nat.le_of_ble_eq_true rfl) ?_
          refine z_leq (L' := [_, _, _, _, _, _, _, _, _, _, _]) rfl ?_
          refine z_iload F dX6_upward_144 rfl ?_
          refine z_iload F dX6_upward_146 rfl ?_
          refine z_iadd F dX6_upward_148 ?_
          refine z_istore F dX6_upward_149 (Nat.le_of_ble_eq_true rfl) ?_
          refine z_leq (L' := [_, _, _, _, _, _, _, _, _, _, _]) rfl ?_
          refine z_iload F dX6_upward_151 rfl ?_
          refine z_iload F dX6_upward_153 rfl ?_
          refine z_icmp_le F (tgt := 163) dX6_upward_155 (by decide) (fun c_155 => ?_) (fun c_155 => ?_)
          · refine z_iload F dX6_upward_163 rfl ?_
            refine z_istore F dX6_upward_165 (Nat.le_of_ble_eq_true rfl) ?_
            refine z_leq (L' := [_, _, _, _, _, _, _, _, _, _, _]) rfl ?_
            refine z_iincN F 1 dX6_upward_167 rfl rfl ?_
            refine z_leq (L' := [_, _, _, _, _, _, _, _, _, _, _]) rfl ?_
            refine z_goto F (tgt := 86) dX6_upward_170 (by decide) ?_
            unfold imx at i1
            rw [if_neg (Int32.not_lt.mpr c_155)] at i1
            refine z_loc _ ?_ i1
            exact ⟨rfl, rfl, rfl, rfl, rfl, rfl, rfl, rfl, trivial⟩
          · refine z_iload F dX6_upward_158 rfl ?_
            refine z_goto F (tgt := 165) dX6_upward_160 (by decide) ?_
            refine z_istore F dX6_upward_165 (Nat.le_of_ble_eq_true rfl) ?_
            refine z_leq (L' := [_, _, _, _, _, _, _, _, _, _, _]) rfl ?_
            refine z_iincN F 1 dX6_upward_167 rfl rfl ?_
            refine z_leq (L' := [_, _, _, _, _, _, _, _, _, _, _]) rfl ?_
            refine z_goto F (tgt := 86) dX6_upward_170 (by decide) ?_
            unfold imx at i1
            rw [if_pos (Int32.not_le.mp c_155)] at i1
            refine z_loc _ ?_ i1
            exact ⟨rfl, rfl, rfl, rfl, rfl, rfl, rfl, rfl, trivial⟩
        refine z_iload F dX6_upward_86 rfl ?_
        refine z_aload_n F dX6_upward_88 rfl ?_
        refine z_mi F rfl 4 rfl (Nat.le_of_ble_eq_true rfl) rfl q1484 dX6_upward_89 ?_
        refine z_ieq (h4) ?_
        refine z_icmp_geN F (by omega) (by omega) (tgt := 173) dX6_upward_92 (by decide) (fun c_92 => ?_) (fun c_92 => ?_)
        · refine z_iincN F 1 dX6_upward_173 rfl rfl ?_
          refine z_leq (L' := [_, _, _, _, _, _, _, _, _, _, _]) rfl ?_
          refine z_goto F (tgt := 67) dX6_upward_176 (by decide) ?_
          rw [show b = n by omega]
          refine z_loc _ ?_ (kk A3 hA3)
          exact ⟨rfl, rfl, rfl, rfl, rfl, rfl, rfl, trivial⟩
        · have e1 := e1 (by omega)
          have e2 := e2 (by omega)
          refine z_aload_n F dX6_upward_95 rfl ?_
          refine z_ma F rfl 72 rfl (Nat.le_of_ble_eq_true rfl) rfl q1552 dX6_upward_96 ?_
          refine z_iload F dX6_upward_99 rfl ?_
          refine z_ialdGN F rfl rfl (Nat.le_of_ble_eq_true rfl) (by omega) rfl dX6_upward_101 ?_
          refine z_istore F dX6_upward_102 (Nat.le_of_ble_eq_true rfl) ?_
          refine z_leq (L' := [_, _, _, _, _, _, _, _, _, _, _]) rfl ?_
          refine z_aload_n F dX6_upward_104 rfl ?_
          refine z_ma F rfl 72 rfl (Nat.le_of_ble_eq_true rfl) rfl q1552 dX6_upward_105 ?_
          refine z_iload F dX6_upward_108 rfl ?_
          refine z_bipush F (nI 24) dX6_upward_110 rfl ?_
          refine z_iaddN F dX6_upward_112 ?_
          refine z_ialdGN F rfl rfl (Nat.le_of_ble_eq_true rfl) (by omega) rfl dX6_upward_113 ?_
          refine z_istore F dX6_upward_114 (Nat.le_of_ble_eq_true rfl) ?_
          refine z_leq (L' := [_, _, _, _, _, _, _, _, _, _, _]) rfl ?_
          refine z_iload F dX6_upward_116 rfl ?_
          refine z_iconst F (-1) dX6_upward_118 rfl ?_
          refine z_icmp_eq F (tgt := 135) dX6_upward_119 (by decide) (fun c_119 => ?_) (fun c_119 => ?_)
          · refine z_iload F dX6_upward_135 rfl ?_
            refine z_goto F (tgt := 142) dX6_upward_137 (by decide) ?_
            exact fold_ _ (by omega) (by rw [e2] at c_119; unfold ris; rw [vm_a c_119, e1])
          · refine z_iload F dX6_upward_122 rfl ?_
            refine z_iconst F (-1) dX6_upward_124 rfl ?_
            refine z_icmp_eq F (tgt := 140) dX6_upward_125 (by decide) (fun c_125 => ?_) (fun c_125 => ?_)
            · refine z_iload F dX6_upward_140 rfl ?_
              exact fold_ _ (by omega) (by rw [e2] at c_119; rw [e1] at c_125; unfold ris; rw [vm_b c_119 c_125, e2])
            · refine z_iload F dX6_upward_128 rfl ?_
              refine z_iload F dX6_upward_130 rfl ?_
              refine z_icmp_ge F (tgt := 140) dX6_upward_132 (by decide) (fun c_132 => ?_) (fun c_132 => ?_)
              · refine z_iload F dX6_upward_140 rfl ?_
                exact fold_ _ (by omega) (by rw [e2] at c_119; rw [e1] at c_125; rw [e1, e2] at c_132; unfold ris; rw [vm_c c_119 c_125 c_132, e2])
              · refine z_iload F dX6_upward_135 rfl ?_
                refine z_goto F (tgt := 142) dX6_upward_137 (by decide) ?_
                exact fold_ _ (by omega) (by rw [e2] at c_119; rw [e1] at c_125; rw [e1, e2] at c_132; unfold ris; rw [vm_d c_119 c_125 c_132, e1])
    have rows : ∀ (m a : Nat) (A3 : Nat → Nat → Int32), n - a < m → a ≤ n → frm [72] A2 A3 → Z X [some (zr 1 0), some (zi (nI j)), some (zi (nI r)), some (zi (nI u)), some (zi (uma n f r a)), some (zi (usa n f r a)), some (zi (nI a)), none, none, none, none] [] [zH, zG F1 G A3 B] 0 0 67 := by
      intro m
      induction m with
      | zero => intro a A3 hm; omega
      | succ m ih =>
        intro a A3 hm ha hA3
        refine z_iload F dX6_upward_67 rfl ?_
        refine z_aload_n F dX6_upward_69 rfl ?_
        refine z_mi F rfl 4 rfl (Nat.le_of_ble_eq_true rfl) rfl q1484 dX6_upward_70 ?_
        refine z_ieq (h4) ?_
        refine z_icmp_geN F (by omega) (by omega) (tgt := 179) dX6_upward_73 (by decide) (fun c_73 => ?_) (fun c_73 => ?_)
        · refine z_iload_n F dX6_upward_179 rfl ?_
          refine z_if_neN F (by omega) (tgt := 188) dX6_upward_180 (by decide) (fun c_180 => ?_) (fun c_180 => ?_)
          · refine z_iload F dX6_upward_188 rfl ?_
            exact z_iret F E rfl dX6_upward_190 (by omega) (by omega) (⟨by rw [hcj, if_pos rfl, if_neg (by omega), show a = n by omega], F1, A3, rfl, f0, f1, f2.tr hA3 (by decide) (by decide)⟩)
          · refine z_iload F dX6_upward_183 rfl ?_
            refine z_goto F (tgt := 190) dX6_upward_185 (by decide) ?_
            exact z_iret F E rfl dX6_upward_190 (by omega) (by omega) (⟨by rw [hcj, if_pos rfl, if_pos (by omega), show a = n by omega], F1, A3, rfl, f0, f1, f2.tr hA3 (by decide) (by decide)⟩)
        · refine z_aload_n F dX6_upward_76 rfl ?_
          refine z_iload_n F dX6_upward_77 rfl ?_
          refine z_iload F dX6_upward_78 rfl ?_
          refine z_callV F (c_climbs F1 _ A3 _ n d f r a h hc h4 (fun k hk => by rw [hA3.at 6 rfl]; exact hf k hk) (fun x y hx hy => by rw [hA3.at 23 rfl]; exact hD x y hx hy) hr (by omega)) 2 rfl (lw_V q2127 q2129 qs102 q117 q2130) (by decide +kernel) ⟨Nat.le_of_ble_eq_true rfl, Nat.le_of_ble_eq_true rfl⟩ ⟨by omega, by omega⟩ [0, 1] 2 ⟨rfl, rfl, rfl, ⟨Or.inl rfl, Or.inr rfl, trivial⟩⟩ (fun h => nomatch h) (Nat.le_of_ble_eq_true rfl) ⟨⟨Or.inr trivial, Or.inl rfl, trivial⟩, rfl, rfl, rfl, Nat.le_of_ble_eq_true rfl⟩ rfl zC6 (zat_G0 rfl) rfl dX6_upward_80 (fun r_80 w_80 hp => ?_) (fun _ _ h => h.elim)
          obtain ⟨rfl, A4, rfl, k1, k2⟩ := hp
          refine z_weq (w' := [zH, zG _ _ _ _]) rfl ?_
          refine z_seq (S' := []) rfl ?_
          refine z_iconst F (nI 0) dX6_upward_83 rfl ?_
          refine z_istore F dX6_upward_84 (Nat.le_of_ble_eq_true rfl) ?_
          refine z_leq (L' := [_, _, _, _, _, _, _, _, _, _, _]) rfl ?_
          exact row a (uma n f r a) (usa n f r a) (by omega) (fun A5 q => ih (a + 1) A5 (by omega) (by omega) q) A4 (hA3.tr k1 (by decide) (by decide)) k2 (n + 1) 0 (by omega) (by omega)
    refine z_iconst F (nI 0) dX6_upward_58 rfl ?_
    refine z_istore F dX6_upward_59 (Nat.le_of_ble_eq_true rfl) ?_
    refine z_leq (L' := [_, _, _, _, _, _, _, _, _, _, _]) rfl ?_
    refine z_iconst F (nI 0) dX6_upward_61 rfl ?_
    refine z_istore F dX6_upward_62 (Nat.le_of_ble_eq_true rfl) ?_
    refine z_leq (L' := [_, _, _, _, _, _, _, _, _, _, _]) rfl ?_
    refine z_iconst F (nI 0) dX6_upward_64 rfl ?_
    refine z_istore F dX6_upward_65 (Nat.le_of_ble_eq_true rfl) ?_
    refine z_leq (L' := [_, _, _, _, _, _, _, _, _, _, _]) rfl ?_
    exact rows (n + 1) 0 A2 (by omega) (by omega) frm.rf
  have J : ∀ (F1 : Nat → Int32) (A1 : Nat → Nat → Int32), F1 0 = nI 0 → frm [0, 4, 5] F0 F1 → frm [6] A A1 → F1 4 = nI n → (∀ k, k < n → A1 6 k = f k) → Z X [some (zr 1 0), some (zi (nI j)), some (zi (nI r)), some (zi (nI u)), none, none, none, none, none, none, none] [zi (bI true), zr 1 0] [zH, zG F1 G A1 B] 0 0 32 := by
    intro F1 A1 f0 f1 f2 h4 hf
    refine z_iconst F (nI 1) dX6_upward_32 rfl ?_
    refine z_callV F (c_right _ _ _ _ true 1 f0 (by omega) (by omega)) 2 rfl (lw_V q1736 q1738 qs43 q117 q1739) (by decide +kernel) ⟨Nat.le_of_ble_eq_true rfl, Nat.le_of_ble_eq_true rfl⟩ ⟨by omega, by omega⟩ [0, 1] 2 ⟨rfl, rfl, rfl, ⟨Or.inl rfl, Or.inr rfl, trivial⟩⟩ (fun h => nomatch h) (Nat.le_of_ble_eq_true rfl) ⟨⟨Or.inr trivial, Or.inl rfl, trivial⟩, rfl, rfl, rfl, Nat.le_of_ble_eq_true rfl⟩ rfl zC6 (zat_G0 rfl) rfl dX6_upward_33 (fun r_33 w_33 hp => ?_) (fun _ _ h => h.elim)
    obtain ⟨rfl, rfl⟩ := hp
    refine z_weq (w' := [zH, zG _ _ _ _]) rfl ?_
    refine z_seq (S' := zi _ :: _) rfl ?_
    refine z_if_neB F (tgt := 41) dX6_upward_36 (by decide) (fun c_36 => ?_) (fun c_36 => ?_)
    · refine z_aload_n F dX6_upward_41 rfl ?_
      refine z_aload_n F dX6_upward_42 rfl ?_
      refine z_callV F (c_mall F1 _ _ _ n hn h4) 0 rfl (lw_V q1880 q1882 qs63 q117 q1883) (by decide +kernel) ⟨Nat.le_of_ble_eq_true rfl, Nat.le_of_ble_eq_true rfl⟩ ⟨by omega, by omega⟩ [0, 1] 2 ⟨rfl, rfl, rfl, ⟨Or.inl rfl, Or.inr rfl, trivial⟩⟩ (fun h => nomatch h) (Nat.le_of_ble_eq_true rfl) ⟨⟨Or.inr trivial, Or.inl rfl, trivial⟩, rfl, rfl, rfl, Nat.le_of_ble_eq_true rfl⟩ rfl zC6 (zat_G0 rfl) rfl dX6_upward_43 (fun r_43 w_43 hp => ?_) (fun _ _ h => h.elim)
      obtain ⟨rfl, rfl⟩ := hp
      refine z_weq (w' := [zH, zG _ _ _ _]) rfl ?_
      refine z_seq (S' := zi _ :: _) rfl ?_
      refine z_callV F (c_isWhole F1 _ A1 _ n f (allB n) hn hall h4 hf) 1 rfl (lw_V q1920 q1922 qs72 q117 q1923) (by decide +kernel) ⟨Nat.le_of_ble_eq_true rfl, Nat.le_of_ble_eq_true rfl⟩ ⟨by omega, by omega⟩ [0, 1] 2 ⟨rfl, rfl, rfl, ⟨Or.inl rfl, Or.inr rfl, trivial⟩⟩ (fun h => nomatch h) (Nat.le_of_ble_eq_true rfl) ⟨⟨Or.inr trivial, Or.inl rfl, trivial⟩, rfl, rfl, rfl, Nat.le_of_ble_eq_true rfl⟩ rfl zC6 (zat_G0 rfl) rfl dX6_upward_46 (fun r_46 w_46 hp => ?_) (fun _ _ h => h.elim)
      obtain ⟨rfl, F2, A2, rfl, g1, g2, g3⟩ := hp
      rw [← cjn_mw h]
      refine z_weq (w' := [zH, zG _ _ _ _]) rfl ?_
      refine z_seq (S' := zi _ :: _) rfl ?_
      refine z_if_neB F (tgt := 54) dX6_upward_49 (by decide) (fun c_49 => ?_) (fun c_49 => ?_)
      · refine z_aload_n F dX6_upward_54 rfl ?_
        refine z_callV F (c_measures F2 _ A2 _ n f hn (by rw [g1.at 4 rfl]; exact h4) (fun k hk => by rw [g2.at 6 rfl]; exact hf k hk)) 0 rfl (lw_V q2083 q2085 qs95 q117 q2086) (by decide +kernel) ⟨Nat.le_of_ble_eq_true rfl, Nat.le_of_ble_eq_true rfl⟩ ⟨by omega, by omega⟩ [0, 1] 2 ⟨rfl, rfl, rfl, ⟨Or.inl rfl, Or.inr rfl, trivial⟩⟩ (fun h => nomatch h) (Nat.le_of_ble_eq_true rfl) ⟨⟨Or.inr trivial, Or.inl rfl, trivial⟩, rfl, rfl, rfl, Nat.le_of_ble_eq_true rfl⟩ rfl zC6 (zat_G0 rfl) rfl dX6_upward_55 (fun r_55 w_55 hp => ?_) (fun _ _ h => h.elim)
        obtain ⟨rfl, A3, rfl, k1, k2⟩ := hp
        refine z_weq (w' := [zH, zG _ _ _ _]) rfl ?_
        refine z_seq (S' := []) rfl ?_
        exact main F2 A3 (by rw [g1.at 0 rfl]; exact f0) (f1.tr g1 (by decide) (by decide)) ((f2.tr g2 (l2 := [6, 23, 72]) (by decide) (by decide)).tr k1 (by decide) (by decide)) (by rw [g1.at 4 rfl]; exact h4) (fun k hk => by rw [k1.at 6 rfl, g2.at 6 rfl]; exact hf k hk) k2 c_49
      · refine z_iconst F (-1) dX6_upward_52 rfl ?_
        exact z_iret F E rfl dX6_upward_53 (by omega) (by omega) (⟨by rw [c_49]; rfl, F2, A2, rfl, by rw [g1.at 0 rfl]; exact f0, f1.tr g1 (by decide) (by decide), f2.tr g2 (by decide) (by decide)⟩)
    · cases c_36
  refine z_aload_n F dX6_upward_0 rfl ?_
  refine z_iload_n F dX6_upward_1 rfl ?_
  refine z_callV F (c_lays_ok _ _ _ _ j n (nI d) f hj (by omega) hn hs) 1 rfl (lw_V q1732 q1734 qs42 q117 q1735) (by decide +kernel) ⟨Nat.le_of_ble_eq_true rfl, Nat.le_of_ble_eq_true rfl⟩ ⟨by omega, by omega⟩ [0, 1] 2 ⟨rfl, rfl, rfl, ⟨Or.inl rfl, Or.inr rfl, trivial⟩⟩ (fun h => nomatch h) (Nat.le_of_ble_eq_true rfl) ⟨⟨Or.inr trivial, Or.inl rfl, trivial⟩, rfl, rfl, rfl, Nat.le_of_ble_eq_true rfl⟩ rfl zC6 (zat_G0 rfl) rfl dX6_upward_2 (fun r_2 w_2 hp => ?_) (fun _ _ h => h.elim)
  obtain ⟨rfl, F1, A1, rfl, f0, f1, f2, f3⟩ := hp
  refine z_weq (w' := [zH, zG _ _ _ _]) rfl ?_
  refine z_seq (S' := zi _ :: _) rfl ?_
  refine z_if_eqB F (tgt := 39) dX6_upward_5 (by decide) (fun c_5 => ?_) (fun c_5 => ?_)
  · cases c_5
  · refine z_aload_n F dX6_upward_8 rfl ?_
    refine z_iload_n F dX6_upward_9 rfl ?_
    refine z_iload_n F dX6_upward_10 rfl ?_
    refine z_callV F (c_mhas _ _ _ _ n (nI r) (nI r) f0 f3.1) 2 rfl (lw_V q1740 q1742 qs44 q117 q1743) (by decide +kernel) ⟨Nat.le_of_ble_eq_true rfl, Nat.le_of_ble_eq_true rfl⟩ ⟨by omega, by omega⟩ [0, 1] 2 ⟨rfl, rfl, rfl, ⟨Or.inl rfl, Or.inr rfl, trivial⟩⟩ (fun h => nomatch h) (Nat.le_of_ble_eq_true rfl) ⟨⟨Or.inr trivial, Or.inl rfl, trivial⟩, rfl, rfl, rfl, Nat.le_of_ble_eq_true rfl⟩ rfl zC6 (zat_G0 rfl) rfl dX6_upward_11 (fun r_11 w_11 hp => ?_) (fun _ _ h => h.elim)
    obtain ⟨rfl, rfl⟩ := hp
    rw [knB_n hr (by omega), Bool.and_self]
    rw [if_pos rfl]
    refine z_weq (w' := [zH, zG _ _ _ _]) rfl ?_
    refine z_seq (S' := zi _ :: _) rfl ?_
    refine z_if_eqB F (tgt := 39) dX6_upward_14 (by decide) (fun c_14 => ?_) (fun c_14 => ?_)
    · cases c_14
    · refine z_aload_n F dX6_upward_17 rfl ?_
      refine z_iload_n F dX6_upward_18 rfl ?_
      refine z_if_eqN F (by omega) (tgt := 27) dX6_upward_19 (by decide) (fun c_19 => ?_) (fun c_19 => ?_)
      · refine z_iconstB F true dX6_upward_27 rfl ?_
        refine z_goto F (tgt := 32) dX6_upward_28 (by decide) ?_
        exact J F1 A1 f0 f1 f2 f3.1 (fun k hk => f3.2.2 k (by omega))
      · refine z_iload_n F dX6_upward_22 rfl ?_
        refine z_iconst F (nI 1) dX6_upward_23 rfl ?_
        refine z_icmp_neN F (by omega) (by omega) (tgt := 31) dX6_upward_24 (by decide) (fun c_24 => ?_) (fun c_24 => ?_)
        · exact absurd c_24 (by omega)
        · refine z_iconstB F true dX6_upward_27 rfl ?_
          refine z_goto F (tgt := 32) dX6_upward_28 (by decide) ?_
          exact J F1 A1 f0 f1 f2 f3.1 (fun k hk => f3.2.2 k (by omega))
theorem c_mupward_bad (F0 : Nat → Int32) (G : Nat → Int64) (A : Nat → Nat → Int32) (B : Nat → Nat → Int64) (j n d : Nat) (f : Nat → Int32) (r : Nat) (u : Int32) (hj : j < 8) (h : nok n d f) (hs : Slt A j n (nI d) f) (hr : r < n) (hu : ∀ i, i < 2 → u ≠ nI i) :
    zCtr yX6_upward cX6_upward 11 (some .int) 3 0 0 [zr 1 0, zi (nI j), zi (nI r), zi u] [zH, zG F0 G A B] (fun r' w => r' = some (zi (nI 0)) ∧ ∃ F' A', w = [zH, zG F' G A' B] ∧ F' 0 = nI 1 ∧ frm [0, 4, 5] F0 F' ∧ frm [6] A A') zNx := by
  refine z_start (by decide) [some (zr 1 0), some (zi (nI j)), some (zi (nI r)), some (zi u), none, none, none, none, none, none, none] rfl (fun _ => Nat.le_of_ble_eq_true rfl) (fun _ => rfl) (fun X F E hno hin => ?_)
  have hn1 := h.n1
  have hn := h.n24
  refine z_aload_n F dX6_upward_0 rfl ?_
  refine z_iload_n F dX6_upward_1 rfl ?_
  refine z_callV F (c_lays_ok _ _ _ _ j n (nI d) f hj (by omega) hn hs) 1 rfl (lw_V q1732 q1734 qs42 q117 q1735) (by decide +kernel) ⟨Nat.le_of_ble_eq_true rfl, Nat.le_of_ble_eq_true rfl⟩ ⟨by omega, by omega⟩ [0, 1] 2 ⟨rfl, rfl, rfl, ⟨Or.inl rfl, Or.inr rfl, trivial⟩⟩ (fun h => nomatch h) (Nat.le_of_ble_eq_true rfl) ⟨⟨Or.inr trivial, Or.inl rfl, trivial⟩, rfl, rfl, rfl, Nat.le_of_ble_eq_true rfl⟩ rfl zC6 (zat_G0 rfl) rfl dX6_upward_2 (fun r_2 w_2 hp => ?_) (fun _ _ h => h.elim)
  obtain ⟨rfl, F1, A1, rfl, f0, f1, f2, f3⟩ := hp
  refine z_weq (w' := [zH, zG _ _ _ _]) rfl ?_
  refine z_seq (S' := zi _ :: _) rfl ?_
  refine z_if_eqB F (tgt := 39) dX6_upward_5 (by decide) (fun c_5 => ?_) (fun c_5 => ?_)
  · cases c_5
  · refine z_aload_n F dX6_upward_8 rfl ?_
    refine z_iload_n F dX6_upward_9 rfl ?_
    refine z_iload_n F dX6_upward_10 rfl ?_
    refine z_callV F (c_mhas _ _ _ _ n (nI r) (nI r) f0 f3.1) 2 rfl (lw_V q1740 q1742 qs44 q117 q1743) (by decide +kernel) ⟨Nat.le_of_ble_eq_true rfl, Nat.le_of_ble_eq_true rfl⟩ ⟨by omega, by omega⟩ [0, 1] 2 ⟨rfl, rfl, rfl, ⟨Or.inl rfl, Or.inr rfl, trivial⟩⟩ (fun h => nomatch h) (Nat.le_of_ble_eq_true rfl) ⟨⟨Or.inr trivial, Or.inl rfl, trivial⟩, rfl, rfl, rfl, Nat.le_of_ble_eq_true rfl⟩ rfl zC6 (zat_G0 rfl) rfl dX6_upward_11 (fun r_11 w_11 hp => ?_) (fun _ _ h => h.elim)
    obtain ⟨rfl, rfl⟩ := hp
    rw [knB_n hr (by omega), Bool.and_self]
    rw [if_pos rfl]
    refine z_weq (w' := [zH, zG _ _ _ _]) rfl ?_
    refine z_seq (S' := zi _ :: _) rfl ?_
    refine z_if_eqB F (tgt := 39) dX6_upward_14 (by decide) (fun c_14 => ?_) (fun c_14 => ?_)
    · cases c_14
    · refine z_aload_n F dX6_upward_17 rfl ?_
      refine z_iload_n F dX6_upward_18 rfl ?_
      refine z_if_eq F (tgt := 27) dX6_upward_19 (by decide) (fun c_19 => ?_) (fun c_19 => ?_)
      · exact absurd c_19 (hu 0 (by omega))
      · refine z_iload_n F dX6_upward_22 rfl ?_
        refine z_iconst F (nI 1) dX6_upward_23 rfl ?_
        refine z_icmp_ne F (tgt := 31) dX6_upward_24 (by decide) (fun c_24 => ?_) (fun c_24 => ?_)
        · refine z_iconstB F false dX6_upward_31 rfl ?_
          refine z_iconst F (nI 1) dX6_upward_32 rfl ?_
          refine z_callV F (c_right _ _ _ _ false 1 f0 (by omega) (by omega)) 2 rfl (lw_V q1736 q1738 qs43 q117 q1739) (by decide +kernel) ⟨Nat.le_of_ble_eq_true rfl, Nat.le_of_ble_eq_true rfl⟩ ⟨by omega, by omega⟩ [0, 1] 2 ⟨rfl, rfl, rfl, ⟨Or.inl rfl, Or.inr rfl, trivial⟩⟩ (fun h => nomatch h) (Nat.le_of_ble_eq_true rfl) ⟨⟨Or.inr trivial, Or.inl rfl, trivial⟩, rfl, rfl, rfl, Nat.le_of_ble_eq_true rfl⟩ rfl zC6 (zat_G0 rfl) rfl dX6_upward_33 (fun r_33 w_33 hp => ?_) (fun _ _ h => h.elim)
          obtain ⟨rfl, rfl⟩ := hp
          refine z_weq (w' := [zH, zG _ _ _ _]) rfl ?_
          refine z_seq (S' := zi _ :: _) rfl ?_
          refine z_if_neB F (tgt := 41) dX6_upward_36 (by decide) (fun c_36 => ?_) (fun c_36 => ?_)
          · cases c_36
          · refine z_iconst F (nI 0) dX6_upward_39 rfl ?_
            exact z_iret F E rfl dX6_upward_40 (by omega) (by omega) (⟨rfl, _, A1, rfl, rfl, frm_upd f1 (by decide), f2⟩)
        · exact absurd c_24 (hu 1 (by omega))
end C92
