/-! glued: WiredNets -/
section C98
variable {X : zX} {cc : ByteArray} {own : String} {ret : Option FieldType} {nL d mc ms nw : Nat} {np : Bool} {L : List (Option zV)} {S : List zV} {w : List zE} {k n pc : Nat}
theorem gR_B {P : zPt} {N s q s2 q2 : Nat} (h : 0 < N) (hq : q < N) (hq2 : q2 < N) (i : Nat) : zokB false N (zput (zput (pR P) s (zr q 0)) s2 (zr q2 0) i) = true := by
  unfold zput; split
  · simp [zokB, Nat.blt_eq, hq2]
  · exact uR_B h hq i
theorem gR_N {P : zPt} {N s q s2 q2 : Nat} (h : 0 < N) (hq : q < N) (hq2 : q2 < N) (i : Nat) : zokN N (zput (zput (pR P) s (zr q 0)) s2 (zr q2 0) i) = true := by
  unfold zput; split
  · simp [zokN, Nat.blt_eq, hq2]
  · exact uR_N h hq i
theorem gOV {P : zPt} {s s2 q : Nat} {v : zV} (hq : 0 < q) (i : Nat) (h : i ≠ s2) : zokV (zput (zput (pR P) s (zr q 0)) s2 v i) = true ∨ zput (zput (pR P) s (zr q 0)) s2 v i = zr 0 (2 * i + 1) := by
  simp only [zput, h, if_false]
  split
  · refine Or.inl ?_
    show (!(q == 0) || (0 : Nat) == 0) = true
    simp
  · exact pR_V P i
theorem gPl {P : zPt} {s s2 : Nat} {v v2 : zV} {x2 : Int32 × Int32 × (Nat → Int32)} (hne : ¬ s2 = s) (h2 : P s2 = some x2) : zPl (zput (zput (zput (pR P) s v) s2 v2) s2 (zr 0 (2 * s2 + 1))) (zput (zput (zput P s none) s2 none) s2 (some x2)) = zPl (zput (pR P) s v) (zput P s none) := by
  have e1 : zput (zput (zput (pR P) s v) s2 v2) s2 (zr 0 (2 * s2 + 1)) = zput (pR P) s v := by
    rw [zput_zput]
    funext i
    by_cases e : i = s2
    · show (if i = s2 then _ else zput (pR P) s v i) = _
      rw [if_pos e, e]
      unfold zput
      rw [if_neg hne, pR_some h2]
    · show (if i = s2 then _ else zput (pR P) s v i) = _
      rw [if_neg e]
  have e2 : zput (zput (zput P s none) s2 none) s2 (some x2) = zput P s none := by
    rw [zput_zput]
    funext i
    by_cases e : i = s2
    · show (if i = s2 then _ else zput P s none i) = _
      rw [if_pos e, e]
      unfold zput
      rw [if_neg hne, h2]
    · show (if i = s2 then _ else zput P s none i) = _
      rw [if_neg e]
  rw [e1, e2]
theorem z_foc2 (F : zFix X cc own ret nL d mc ms nw np) {R : Nat → zV} {P : zPt} {w1 : List zE} (s : Nat) {vn vd : Int32} {f : Nat → Int32} (hs : s < 8) (hP : P s = some (vn, vd, f)) (hR : R s = zr 0 (2 * s + 1)) (hwR : ∀ N, 23 ≤ N → ∀ i, zokN N (R i) = true) {N M : Nat} (hN : N = w1.length + 1) (hM : M = N + 1) (hnw : nw ≤ N) (hwf : zwf N w1)
    {L' : List (Option zV)} {S' : List zV} (hL : zrl N s L L') (hLL : L.all (zoN N) = true) (hS : zrs N s S S') (hSS : S.all (zokN N) = true) (hN2 : 23 ≤ N)
    (kk : Z X L' S' ((zPl (zput R s (zr N 0)) (zput P s none) :: w1) ++ [zO 5 [zi vn, zi vd, zr M 0], zAi 0 24 f]) k n pc) : Z X L S (zPl R P :: w1) k n pc := by
  subst hM
  exact z_focus F s hs hP hR hN hnw hwf (hwR N hN2) L' S' (zrl_map hL hLL) hLL (zrs_map hS hSS) hSS kk
theorem glT1 {kd nx : Nat} {fp fq : Nat → Int32} {k l : Nat} (h1 : k / nx = l / nx) (h2 : kd = 0 ∨ k / nx = 0) (h3 : bt (fp (k % nx)) (l % nx) = true) : glR kd nx fp fq k l = true := by
  unfold glR
  simp only [Bool.or_eq_true, Bool.and_eq_true, decide_eq_true_eq]
  exact Or.inl ⟨h1, h2, h3⟩
theorem glT2 {kd nx : Nat} {fp fq : Nat → Int32} {k l : Nat} (h1 : k % nx = l % nx) (h3 : bt (fq (k / nx)) (l / nx) = true) : glR kd nx fp fq k l = true := by
  unfold glR
  simp only [Bool.or_eq_true, Bool.and_eq_true, decide_eq_true_eq]
  exact Or.inr ⟨h1, h3⟩
theorem glF {kd nx : Nat} {fp fq : Nat → Int32} {k l : Nat} (h1 : ¬ (k / nx = l / nx ∧ (kd = 0 ∨ k / nx = 0) ∧ bt (fp (k % nx)) (l % nx) = true)) (h2 : ¬ (k % nx = l % nx ∧ bt (fq (k / nx)) (l / nx) = true)) : ¬ glR kd nx fp fq k l = true := by
  unfold glR
  simp only [Bool.or_eq_true, Bool.and_eq_true, decide_eq_true_eq]
  exact fun z => z.elim h1 h2
def glB (s k : Int32) (n1 n2 d1 d2 : Nat) : Bool := slB s && (inB k (nI 0) (nI 1) && (inB (nI (n1 * n2)) (nI 1) (nI 24) && inB (nI (d1 + d2)) (nI 1) (nI 8)))
theorem inB_nn {x y z : Nat} (q1 : x ≤ y) (q2 : y ≤ z) (q3 : z < 100) : inB (nI y) (nI x) (nI z) = true := by
  unfold inB
  rw [decide_eq_true_eq]
  exact ⟨fun z => absurd ((nI_ltI (by omega) (by omega)).mp z) (by omega), fun z => absurd ((nI_ltI (by omega) (by omega)).mp z) (by omega)⟩
theorem zrnU {g : Nat → Nat} {P : zPt} {P2 : Nat → Option (Int32 × Int32 × (Nat → Int32))} {x q : Nat} (h : g 0 = 0) (hq : g q = q) : zrnE g (zPl (zput (pR P) x (zr q 0)) P2) = zPl (zput (pR P) x (zr q 0)) P2 := by
  simp only [zrnE]
  congr 6
  funext i
  unfold zput pR
  split
  · simp [zrn, hq]
  · split
    · rfl
    · simp [zrn, h]
theorem c_netAt2 (P : zPt) (t : Nat) (fp : Int32) (x y q1 q2 : Nat) (hy : y < 8) (hR : zput (pR P) x (zr 22 0) y = zr q1 q2) : zCtr yX1_netAt cX1_netAt 2 (some (.object "WiredNets$Net")) 7 1 6 [zr 1 0, zi (nI y)] [zPl (zput (pR P) x (zr 22 0)) (zput P x none), xO t fp, zH, zH, zH, zH, zH, zH, zH, zH, zH, zH, zH, zH, zH, zH, zH, zH, zH, zH, zH, zH, zH, zH] (fun r w => r = some (zr q1 q2) ∧ w = [zPl (zput (pR P) x (zr 22 0)) (zput P x none), xO t fp, zH, zH, zH, zH, zH, zH, zH, zH, zH, zH, zH, zH, zH, zH, zH, zH, zH, zH, zH, zH, zH, zH]) zNx := by
  refine z_start (by decide) [some (zr 1 0), some (zi (nI y))] rfl (fun _ => Nat.le_of_ble_eq_true rfl) (fun _ => rfl) (fun X F E hno hin => ?_)
  refine z_iload_n F dX1_netAt_0 rfl ?_
  refine z_callS F (c_xSlot (nI y)) 1 rfl (lw_S q346 q347 q109 q348) (by decide +kernel) ⟨Nat.le_of_ble_eq_true rfl, Nat.le_of_ble_eq_true rfl⟩ ⟨by omega, by omega⟩ [0] 24 ⟨rfl, rfl, rfl, ⟨Or.inl rfl, trivial⟩⟩ (fun h => nomatch h) (Nat.le_of_ble_eq_true rfl) ⟨⟨Or.inr (by first | exact ⟨rfl, pR_B _ (by decide)⟩ | exact ⟨rfl, uR_B (by decide) (by decide)⟩), Or.inr rfl, Or.inr trivial, Or.inr trivial, Or.inr trivial, Or.inr trivial, Or.inr trivial, Or.inr trivial, Or.inr trivial, Or.inr trivial, Or.inr trivial, Or.inr trivial, Or.inr trivial, Or.inr trivial, Or.inr trivial, Or.inr trivial, Or.inr trivial, Or.inr trivial, Or.inr trivial, Or.inr trivial, Or.inr trivial, Or.inr trivial, Or.inr trivial, Or.inr trivial, trivial⟩, rfl, rfl, rfl, Nat.le_of_ble_eq_true rfl⟩ rfl rfl dX1_netAt_1 (fun r_1 w_1 hp => ?_) (fun _ _ h => h.elim)
  obtain ⟨rfl, rfl⟩ := hp
  refine z_weq (w' := [zPl _ _, zO _ [zr _ _, zr _ _, zr _ _, zr _ _, zr _ _, zi _, zi _, zr _ _, zr _ _], zH, zH, zH, zH, zH, zH, zH, zH, zH, zH, zH, zH, zH, zH, zH, zH, zH, zH, zH, zH, zH, zH]) rfl ?_
  refine z_seq (S' := zi _ :: _) rfl ?_
  refine z_if_eqB F (tgt := 20) dX1_netAt_4 (by decide) (fun c_4 => ?_) (fun c_4 => ?_)
  · rw [slB_n hy] at c_4; cases c_4
  · refine z_aload_n F dX1_netAt_7 rfl ?_
    refine z_get F zC1 (f := 0) rfl (Nat.le_of_ble_eq_true rfl) q313 rfl dX1_netAt_8 ?_
    refine z_iload_n F dX1_netAt_11 rfl ?_
    refine z_aaldP F (by omega) (hR) (Or.inl ⟨_, rfl⟩) dX1_netAt_12 ?_
    refine z_ifnull F dX1_netAt_13 ?_
    refine z_iconstB F true dX1_netAt_16 rfl ?_
    refine z_goto F (tgt := 21) dX1_netAt_17 (by decide) ?_
    refine z_callS F (c_fnd true) 1 rfl (lw_S q433 q434 q109 q435) (by decide +kernel) ⟨Nat.le_of_ble_eq_true rfl, Nat.le_of_ble_eq_true rfl⟩ ⟨by omega, by omega⟩ [0] 24 ⟨rfl, rfl, rfl, ⟨Or.inl rfl, trivial⟩⟩ (fun h => nomatch h) (Nat.le_of_ble_eq_true rfl) ⟨⟨Or.inr (by first | exact ⟨rfl, pR_B _ (by decide)⟩ | exact ⟨rfl, uR_B (by decide) (by decide)⟩), Or.inr rfl, Or.inr trivial, Or.inr trivial, Or.inr trivial, Or.inr trivial, Or.inr trivial, Or.inr trivial, Or.inr trivial, Or.inr trivial, Or.inr trivial, Or.inr trivial, Or.inr trivial, Or.inr trivial, Or.inr trivial, Or.inr trivial, Or.inr trivial, Or.inr trivial, Or.inr trivial, Or.inr trivial, Or.inr trivial, Or.inr trivial, Or.inr trivial, Or.inr trivial, trivial⟩, rfl, rfl, rfl, Nat.le_of_ble_eq_true rfl⟩ rfl rfl dX1_netAt_21 (fun r_21 w_21 hp => ?_) (fun E_ w_ hx => by obtain ⟨-, hb, -⟩ := hx; cases hb)
    obtain ⟨rfl, -, rfl⟩ := hp
    refine z_weq (w' := [zPl _ _, zO _ [zr _ _, zr _ _, zr _ _, zr _ _, zr _ _, zi _, zi _, zr _ _, zr _ _], zH, zH, zH, zH, zH, zH, zH, zH, zH, zH, zH, zH, zH, zH, zH, zH, zH, zH, zH, zH, zH, zH]) rfl ?_
    refine z_seq (S' := []) rfl ?_
    refine z_aload_n F dX1_netAt_24 rfl ?_
    refine z_get F zC1 (f := 0) rfl (Nat.le_of_ble_eq_true rfl) q313 rfl dX1_netAt_25 ?_
    refine z_iload_n F dX1_netAt_28 rfl ?_
    refine z_aaldP F (by omega) (hR) (Or.inl ⟨_, rfl⟩) dX1_netAt_29 ?_
    exact z_aret F E rfl (Or.inl ⟨_, rfl⟩) dX1_netAt_30 (by omega) (by omega) (⟨rfl, rfl⟩)
theorem c_pgluedA (P : zPt) (t : Nat) (fp0 : Int32) (j x y kd nx ny d1 d2 : Nat) (fp fq : Nat → Int32) (hx : x < 8) (hy : y < 8) (hxy : ¬ y = x) (h1 : nok nx d1 fp) (h2 : nok ny d2 fq) (hPx : P x = some (nI nx, nI d1, fp)) (hPy : P y = some (nI ny, nI d2, fq)) (hj : j < 8) (hkd : kd < 2) (hN : nx * ny ≤ 24) (hd : d1 + d2 ≤ 8) : zCtr yX1_glued cX1_glued 13 (some .boolean) 8 10 80 [zr 1 0, zi (nI j), zi (nI kd), zi (nI x), zi (nI y)] (xH P t fp0) (fun r w => r = some (zi (bI true)) ∧ w = xH (zput P j (some (nI (nx * ny), nI (d1 + d2), cgk kd nx fp fq (nx * ny)))) t fp0) zNx := by
  refine z_start (by decide) [some (zr 1 0), some (zi (nI j)), some (zi (nI kd)), some (zi (nI x)), some (zi (nI y)), none, none, none, none, none, none, none, none] rfl (fun _ => Nat.le_of_ble_eq_true rfl) (fun _ => rfl) (fun X F E hno hin => ?_)
  have p1 := h1.n1
  have p2 := h2.n1
  have p3 := h1.n24
  have p4 := h2.n24
  have p5 := h1.d1
  have inner : ∀ (k k0 n0 : Nat), k < nx * ny → k0 ≤ 10 → n0 ≤ 80 → (Z X [some (zr 1 0), some (zi (nI j)), some (zi (nI kd)), some (zi (nI x)), some (zi (nI y)), some (zr 22 0), some (zr 24 0), some (zr 26 0), some (zi (nI (k + 1))), none, none, none, none] [] [zPl (zput (zput (pR P) x (zr 22 0)) y (zr 24 0)) (zput (zput P x none) y none), xO t fp0, zH, zH, zH, zH, zH, zH, zH, zH, zH, zH, zH, zH, zH, zH, zH, zH, zH, zH, zH, zH, eNet 23 (nI nx) (nI d1), zAi 0 24 fp, eNet 25 (nI ny) (nI d2), zAi 0 24 fq, eNet 27 (nI (nx * ny)) (nI (d1 + d2)), zAi 0 24 (cgk kd nx fp fq (k + 1))] k0 n0 95) →
      ∀ (m l : Nat), k - l < m → l ≤ k → Z X [some (zr 1 0), some (zi (nI j)), some (zi (nI kd)), some (zi (nI x)), some (zi (nI y)), some (zr 22 0), some (zr 24 0), some (zr 26 0), some (zi (nI k)), some (zi (nI l)), none, none, none] [] [zPl (zput (zput (pR P) x (zr 22 0)) y (zr 24 0)) (zput (zput P x none) y none), xO t fp0, zH, zH, zH, zH, zH, zH, zH, zH, zH, zH, zH, zH, zH, zH, zH, zH, zH, zH, zH, zH, eNet 23 (nI nx) (nI d1), zAi 0 24 fp, eNet 25 (nI ny) (nI d2), zAi 0 24 fq, eNet 27 (nI (nx * ny)) (nI (d1 + d2)), zAi 0 24 (cgl kd nx fp fq k (cgk kd nx fp fq k) l)] k0 n0 108 := by
    intro k k0 n0 hk hk0 hn0 kk m
    induction m with
    | zero => intro l hm; omega
    | succ m ih =>
      intro l hm hl
      have i1 : l < k → _ := fun z => ih (l + 1) (by omega) z
      rw [cgl] at i1
      have a1 : k % nx < nx := Nat.mod_lt _ p1
      have a2 : l % nx < nx := Nat.mod_lt _ p1
      have a3 : k / nx < ny := dm_lt hk
      have a4 : l < k → l / nx < ny := fun z => dm_lt (by omega)
      have back : ∀ (f : Nat → Int32), l < k → f = (if glR kd nx fp fq k l = true then jn (cgl kd nx fp fq k (cgk kd nx fp fq k) l) k l else cgl kd nx fp fq k (cgk kd nx fp fq k) l) → Z X [some (zr 1 0), some (zi (nI j)), some (zi (nI kd)), some (zi (nI x)), some (zi (nI y)), some (zr 22 0), some (zr 24 0), some (zr 26 0), some (zi (nI k)), some (zi (nI l)), none, none, none] [] [zPl (zput (zput (pR P) x (zr 22 0)) y (zr 24 0)) (zput (zput P x none) y none), xO t fp0, zH, zH, zH, zH, zH, zH, zH, zH, zH, zH, zH, zH, zH, zH, zH, zH, zH, zH, zH, zH, eNet 23 (nI nx) (nI d1), zAi 0 24 fp, eNet 25 (nI ny) (nI d2), zAi 0 24 fq, eNet 27 (nI (nx * ny)) (nI (d1 + d2)), zAi 0 24 f] k0 n0 261 := by
        intro f hlk hf
        have i1 := i1 hlk
        rw [← hf] at i1
        refine z_iincN F 1 dX1_glued_261 rfl rfl ?_
        refine z_leq (L' := [_, _, _, _, _, _, _, _, _, _, _, _, _]) rfl ?_
        refine z_goto F (tgt := 108) dX1_glued_264 (by decide) ?_
        exact i1
      refine z_iload F dX1_glued_108 rfl ?_
      refine z_iload F dX1_glued_110 rfl ?_
      refine z_icmp_geN F (by omega) (by omega) (tgt := 267) dX1_glued_112 (by decide) (fun c_112 => ?_) (fun c_112 => ?_)
      · refine z_iincN F 1 dX1_glued_267 rfl rfl ?_
        refine z_leq (L' := [_, _, _, _, _, _, _, _, _, _, _, _, _]) rfl ?_
        refine z_goto F (tgt := 95) dX1_glued_270 (by decide) ?_
        rw [show l = k by omega]
        refine z_loc _ ?_ kk
        exact ⟨rfl, rfl, rfl, rfl, rfl, rfl, rfl, rfl, rfl, trivial⟩
      · have a4 := a4 (by omega)
        refine z_iload F dX1_glued_115 rfl ?_
        refine z_aload F dX1_glued_117 rfl ?_
        refine z_getN F zC5 (f := 0) rfl (Nat.le_of_ble_eq_true rfl) q245 rfl dX1_glued_119 ?_
        refine z_iremN F (by omega) (by omega) (by omega) dX1_glued_122 ?_
        refine z_iload F dX1_glued_123 rfl ?_
        refine z_aload F dX1_glued_125 rfl ?_
        refine z_getN F zC5 (f := 0) rfl (Nat.le_of_ble_eq_true rfl) q245 rfl dX1_glued_127 ?_
        refine z_iremN F (by omega) (by omega) (by omega) dX1_glued_130 ?_
        refine z_icmp_neN F (by omega) (by omega) (tgt := 138) dX1_glued_131 (by decide) (fun c_131 => ?_) (fun c_131 => ?_)
        · refine z_iconstB F false dX1_glued_138 rfl ?_
          refine z_istore F dX1_glued_139 (Nat.le_of_ble_eq_true rfl) ?_
          refine z_leq (L' := [_, _, _, _, _, _, _, _, _, _, _, _, _]) rfl ?_
          refine z_iload F dX1_glued_141 rfl ?_
          refine z_aload F dX1_glued_143 rfl ?_
          refine z_getN F zC5 (f := 0) rfl (Nat.le_of_ble_eq_true rfl) q245 rfl dX1_glued_145 ?_
          refine z_idivN F (by omega) (by omega) (by omega) dX1_glued_148 ?_
          refine z_iload F dX1_glued_149 rfl ?_
          refine z_aload F dX1_glued_151 rfl ?_
          refine z_getN F zC5 (f := 0) rfl (Nat.le_of_ble_eq_true rfl) q245 rfl dX1_glued_153 ?_
          refine z_idivN F (by omega) (by omega) (by omega) dX1_glued_156 ?_
          refine z_icmp_neN F (by omega) (by omega) (tgt := 164) dX1_glued_157 (by decide) (fun c_157 => ?_) (fun c_157 => ?_)
          · refine z_iconstB F false dX1_glued_164 rfl ?_
            refine z_istore F dX1_glued_165 (Nat.le_of_ble_eq_true rfl) ?_
            refine z_leq (L' := [_, _, _, _, _, _, _, _, _, _, _, _, _]) rfl ?_
            refine z_iload F dX1_glued_167 rfl ?_
            refine z_if_eqB F (tgt := 215) dX1_glued_169 (by decide) (fun c_169 => ?_) (fun c_169 => ?_)
            · refine z_iconstB F false dX1_glued_215 rfl ?_
              refine z_istore F dX1_glued_216 (Nat.le_of_ble_eq_true rfl) ?_
              refine z_leq (L' := [_, _, _, _, _, _, _, _, _, _, _, _, _]) rfl ?_
              refine z_iload F dX1_glued_218 rfl ?_
              refine z_if_neB F (tgt := 252) dX1_glued_220 (by decide) (fun c_220 => ?_) (fun c_220 => ?_)
              · cases c_220
              · refine z_iload F dX1_glued_223 rfl ?_
                refine z_if_eqB F (tgt := 261) dX1_glued_225 (by decide) (fun c_225 => ?_) (fun c_225 => ?_)
                · refine z_loc _ ?_ (back _ (by omega) (if_neg (glF (by first | exact (fun z => c_157 z.1) | exact (fun z => z.2.1.elim c_173 c_184) | exact (fun z => by rw [z.2.2] at c_208; cases c_208)) (fun z => c_131 z.1))).symm)
                  exact ⟨rfl, rfl, rfl, rfl, rfl, rfl, rfl, rfl, rfl, rfl, trivial⟩
                · cases c_225
            · cases c_169
          · refine z_iconstB F true dX1_glued_160 rfl ?_
            refine z_goto F (tgt := 165) dX1_glued_161 (by decide) ?_
            refine z_istore F dX1_glued_165 (Nat.le_of_ble_eq_true rfl) ?_
            refine z_leq (L' := [_, _, _, _, _, _, _, _, _, _, _, _, _]) rfl ?_
            refine z_iload F dX1_glued_167 rfl ?_
            refine z_if_eqB F (tgt := 215) dX1_glued_169 (by decide) (fun c_169 => ?_) (fun c_169 => ?_)
            · cases c_169
            · refine z_iload_n F dX1_glued_172 rfl ?_
              refine z_if_eqN F (by omega) (tgt := 187) dX1_glued_173 (by decide) (fun c_173 => ?_) (fun c_173 => ?_)
              · refine z_aload F dX1_glued_187 rfl ?_
                refine z_iload F dX1_glued_189 rfl ?_
                refine z_aload F dX1_glued_191 rfl ?_
                refine z_getN F zC5 (f := 0) rfl (Nat.le_of_ble_eq_true rfl) q245 rfl dX1_glued_193 ?_
                refine z_iremN F (by omega) (by omega) (by omega) dX1_glued_196 ?_
                refine z_iload F dX1_glued_197 rfl ?_
                refine z_aload F dX1_glued_199 rfl ?_
                refine z_getN F zC5 (f := 0) rfl (Nat.le_of_ble_eq_true rfl) q245 rfl dX1_glued_201 ?_
                refine z_iremN F (by omega) (by omega) (by omega) dX1_glued_204 ?_
                refine z_callV F (c_has (nI nx) (nI d1) fp (k % nx) (l % nx) (by omega) (by omega)) 2 rfl (lw_V q524 q508 q509 q116 q510) (by decide +kernel) ⟨Nat.le_of_ble_eq_true rfl, Nat.le_of_ble_eq_true rfl⟩ ⟨by omega, by omega⟩ [0, 22, 23] 28 ⟨rfl, rfl, rfl, ⟨Or.inl rfl, Or.inr rfl, Or.inr rfl, trivial⟩⟩ (fun h => nomatch h) (Nat.le_of_ble_eq_true rfl) ⟨⟨Or.inr (by first | exact ⟨rfl, pR_B _ (by decide)⟩ | exact ⟨rfl, uR_B (by decide) (by decide)⟩ | exact ⟨rfl, gR_B (by decide) (by decide) (by decide)⟩), Or.inr rfl, Or.inr trivial, Or.inr trivial, Or.inr trivial, Or.inr trivial, Or.inr trivial, Or.inr trivial, Or.inr trivial, Or.inr trivial, Or.inr trivial, Or.inr trivial, Or.inr trivial, Or.inr trivial, Or.inr trivial, Or.inr trivial, Or.inr trivial, Or.inr trivial, Or.inr trivial, Or.inr trivial, Or.inr trivial, Or.inr trivial, Or.inl rfl, Or.inl rfl, Or.inr rfl, Or.inr trivial, Or.inr rfl, Or.inr trivial, trivial⟩, rfl, rfl, rfl, Nat.le_of_ble_eq_true rfl⟩ rfl zC5 rfl rfl dX1_glued_205 (fun r_205 w_205 hp => ?_) (fun _ _ h => h.elim)
                obtain ⟨rfl, rfl⟩ := hp
                refine z_weq (w' := [zPl _ _, zO _ [zr _ _, zr _ _, zr _ _, zr _ _, zr _ _, zi _, zi _, zr _ _, zr _ _], zH, zH, zH, zH, zH, zH, zH, zH, zH, zH, zH, zH, zH, zH, zH, zH, zH, zH, zH, zH, zO _ [zi _, zi _, zr _ _], zAi 0 24 _, zO _ [zi _, zi _, zr _ _], zAi 0 24 _, zO _ [zi _, zi _, zr _ _], zAi 0 24 _]) rfl ?_
                refine z_seq (S' := zi _ :: _) rfl ?_
                refine z_if_eqB F (tgt := 215) dX1_glued_208 (by decide) (fun c_208 => ?_) (fun c_208 => ?_)
                · refine z_iconstB F false dX1_glued_215 rfl ?_
                  refine z_istore F dX1_glued_216 (Nat.le_of_ble_eq_true rfl) ?_
                  refine z_leq (L' := [_, _, _, _, _, _, _, _, _, _, _, _, _]) rfl ?_
                  refine z_iload F dX1_glued_218 rfl ?_
                  refine z_if_neB F (tgt := 252) dX1_glued_220 (by decide) (fun c_220 => ?_) (fun c_220 => ?_)
                  · cases c_220
                  · refine z_iload F dX1_glued_223 rfl ?_
                    refine z_if_eqB F (tgt := 261) dX1_glued_225 (by decide) (fun c_225 => ?_) (fun c_225 => ?_)
                    · refine z_loc _ ?_ (back _ (by omega) (if_neg (glF (by first | exact (fun z => c_157 z.1) | exact (fun z => z.2.1.elim c_173 c_184) | exact (fun z => by rw [z.2.2] at c_208; cases c_208)) (fun z => c_131 z.1))).symm)
                      exact ⟨rfl, rfl, rfl, rfl, rfl, rfl, rfl, rfl, rfl, rfl, trivial⟩
                    · cases c_225
                · refine z_iconstB F true dX1_glued_211 rfl ?_
                  refine z_goto F (tgt := 216) dX1_glued_212 (by decide) ?_
                  refine z_istore F dX1_glued_216 (Nat.le_of_ble_eq_true rfl) ?_
                  refine z_leq (L' := [_, _, _, _, _, _, _, _, _, _, _, _, _]) rfl ?_
                  refine z_iload F dX1_glued_218 rfl ?_
                  refine z_if_neB F (tgt := 252) dX1_glued_220 (by decide) (fun c_220 => ?_) (fun c_220 => ?_)
                  · refine z_aload F dX1_glued_252 rfl ?_
                    refine z_iload F dX1_glued_254 rfl ?_
                    refine z_iload F dX1_glued_256 rfl ?_
                    refine z_callV F (c_setj (nI (nx * ny)) (nI (d1 + d2)) _ k l (by omega) (by omega)) 2 rfl (lw_V q516 q418 q419 q116 q420) (by decide +kernel) ⟨Nat.le_of_ble_eq_true rfl, Nat.le_of_ble_eq_true rfl⟩ ⟨by omega, by omega⟩ [0, 26, 27] 28 ⟨rfl, rfl, rfl, ⟨Or.inl rfl, Or.inr rfl, Or.inr rfl, trivial⟩⟩ (fun h => nomatch h) (Nat.le_of_ble_eq_true rfl) ⟨⟨Or.inr (by first | exact ⟨rfl, pR_B _ (by decide)⟩ | exact ⟨rfl, uR_B (by decide) (by decide)⟩ | exact ⟨rfl, gR_B (by decide) (by decide) (by decide)⟩), Or.inr rfl, Or.inr trivial, Or.inr trivial, Or.inr trivial, Or.inr trivial, Or.inr trivial, Or.inr trivial, Or.inr trivial, Or.inr trivial, Or.inr trivial, Or.inr trivial, Or.inr trivial, Or.inr trivial, Or.inr trivial, Or.inr trivial, Or.inr trivial, Or.inr trivial, Or.inr trivial, Or.inr trivial, Or.inr trivial, Or.inr trivial, Or.inr rfl, Or.inr trivial, Or.inr rfl, Or.inr trivial, Or.inl rfl, Or.inl rfl, trivial⟩, rfl, rfl, rfl, Nat.le_of_ble_eq_true rfl⟩ rfl zC5 rfl rfl dX1_glued_258 (fun r_258 w_258 hp => ?_) (fun _ _ h => h.elim)
                    obtain ⟨rfl, rfl⟩ := hp
                    refine z_weq (w' := [zPl _ _, zO _ [zr _ _, zr _ _, zr _ _, zr _ _, zr _ _, zi _, zi _, zr _ _, zr _ _], zH, zH, zH, zH, zH, zH, zH, zH, zH, zH, zH, zH, zH, zH, zH, zH, zH, zH, zH, zH, zO _ [zi _, zi _, zr _ _], zAi 0 24 _, zO _ [zi _, zi _, zr _ _], zAi 0 24 _, zO _ [zi _, zi _, zr _ _], zAi 0 24 _]) rfl ?_
                    refine z_seq (S' := []) rfl ?_
                    refine z_loc _ ?_ (back _ (by omega) (if_pos (glT1 c_157 (by first | exact Or.inl c_173 | exact Or.inr c_184) c_208)).symm)
                    exact ⟨rfl, rfl, rfl, rfl, rfl, rfl, rfl, rfl, rfl, rfl, trivial⟩
                  · cases c_220
              · refine z_iload F dX1_glued_176 rfl ?_
                refine z_aload F dX1_glued_178 rfl ?_
                refine z_getN F zC5 (f := 0) rfl (Nat.le_of_ble_eq_true rfl) q245 rfl dX1_glued_180 ?_
                refine z_idivN F (by omega) (by omega) (by omega) dX1_glued_183 ?_
                refine z_if_neN F (by omega) (tgt := 215) dX1_glued_184 (by decide) (fun c_184 => ?_) (fun c_184 => ?_)
                · refine z_iconstB F false dX1_glued_215 rfl ?_
                  refine z_istore F dX1_glued_216 (Nat.le_of_ble_eq_true rfl) ?_
                  refine z_leq (L' := [_, _, _, _, _, _, _, _, _, _, _, _, _]) rfl ?_
                  refine z_iload F dX1_glued_218 rfl ?_
                  refine z_if_neB F (tgt := 252) dX1_glued_220 (by decide) (fun c_220 => ?_) (fun c_220 => ?_)
                  · cases c_220
                  · refine z_iload F dX1_glued_223 rfl ?_
                    refine z_if_eqB F (tgt := 261) dX1_glued_225 (by decide) (fun c_225 => ?_) (fun c_225 => ?_)
                    · refine z_loc _ ?_ (back _ (by omega) (if_neg (glF (by first | exact (fun z => c_157 z.1) | exact (fun z => z.2.1.elim c_173 c_184) | exact (fun z => by rw [z.2.2] at c_208; cases c_208)) (fun z => c_131 z.1))).symm)
                      exact ⟨rfl, rfl, rfl, rfl, rfl, rfl, rfl, rfl, rfl, rfl, trivial⟩
                    · cases c_225
                · refine z_aload F dX1_glued_187 rfl ?_
                  refine z_iload F dX1_glued_189 rfl ?_
                  refine z_aload F dX1_glued_191 rfl ?_
                  refine z_getN F zC5 (f := 0) rfl (Nat.le_of_ble_eq_true rfl) q245 rfl dX1_glued_193 ?_
                  refine z_iremN F (by omega) (by omega) (by omega) dX1_glued_196 ?_
                  refine z_iload F dX1_glued_197 rfl ?_
                  refine z_aload F dX1_glued_199 rfl ?_
                  refine z_getN F zC5 (f := 0) rfl (Nat.le_of_ble_eq_true rfl) q245 rfl dX1_glued_201 ?_
                  refine z_iremN F (by omega) (by omega) (by omega) dX1_glued_204 ?_
                  refine z_callV F (c_has (nI nx) (nI d1) fp (k % nx) (l % nx) (by omega) (by omega)) 2 rfl (lw_V q524 q508 q509 q116 q510) (by decide +kernel) ⟨Nat.le_of_ble_eq_true rfl, Nat.le_of_ble_eq_true rfl⟩ ⟨by omega, by omega⟩ [0, 22, 23] 28 ⟨rfl, rfl, rfl, ⟨Or.inl rfl, Or.inr rfl, Or.inr rfl, trivial⟩⟩ (fun h => nomatch h) (Nat.le_of_ble_eq_true rfl) ⟨⟨Or.inr (by first | exact ⟨rfl, pR_B _ (by decide)⟩ | exact ⟨rfl, uR_B (by decide) (by decide)⟩ | exact ⟨rfl, gR_B (by decide) (by decide) (by decide)⟩), Or.inr rfl, Or.inr trivial, Or.inr trivial, Or.inr trivial, Or.inr trivial, Or.inr trivial, Or.inr trivial, Or.inr trivial, Or.inr trivial, Or.inr trivial, Or.inr trivial, Or.inr trivial, Or.inr trivial, Or.inr trivial, Or.inr trivial, Or.inr trivial, Or.inr trivial, Or.inr trivial, Or.inr trivial, Or.inr trivial, Or.inr trivial, Or.inl rfl, Or.inl rfl, Or.inr rfl, Or.inr trivial, Or.inr rfl, Or.inr trivial, trivial⟩, rfl, rfl, rfl, Nat.le_of_ble_eq_true rfl⟩ rfl zC5 rfl rfl dX1_glued_205 (fun r_205 w_205 hp => ?_) (fun _ _ h => h.elim)
                  obtain ⟨rfl, rfl⟩ := hp
                  refine z_weq (w' := [zPl _ _, zO _ [zr _ _, zr _ _, zr _ _, zr _ _, zr _ _, zi _, zi _, zr _ _, zr _ _], zH, zH, zH, zH, zH, zH, zH, zH, zH, zH, zH, zH, zH, zH, zH, zH, zH, zH, zH, zH, zO _ [zi _, zi _, zr _ _], zAi 0 24 _, zO _ [zi _, zi _, zr _ _], zAi 0 24 _, zO _ [zi _, zi _, zr _ _], zAi 0 24 _]) rfl ?_
                  refine z_seq (S' := zi _ :: _) rfl ?_
                  refine z_if_eqB F (tgt := 215) dX1_glued_208 (by decide) (fun c_208 => ?_) (fun c_208 => ?_)
                  · refine z_iconstB F false dX1_glued_215 rfl ?_
                    refine z_istore F dX1_glued_216 (Nat.le_of_ble_eq_true rfl) ?_
                    refine z_leq (L' := [_, _, _, _, _, _, _, _, _, _, _, _, _]) rfl ?_
                    refine z_iload F dX1_glued_218 rfl ?_
                    refine z_if_neB F (tgt := 252) dX1_glued_220 (by decide) (fun c_220 => ?_) (fun c_220 => ?_)
                    · cases c_220
                    · refine z_iload F dX1_glued_223 rfl ?_
                      refine z_if_eqB F (tgt := 261) dX1_glued_225 (by decide) (fun c_225 => ?_) (fun c_225 => ?_)
                      · refine z_loc _ ?_ (back _ (by omega) (if_neg (glF (by first | exact (fun z => c_157 z.1) | exact (fun z => z.2.1.elim c_173 c_184) | exact (fun z => by rw [z.2.2] at c_208; cases c_208)) (fun z => c_131 z.1))).symm)
                        exact ⟨rfl, rfl, rfl, rfl, rfl, rfl, rfl, rfl, rfl, rfl, trivial⟩
                      · cases c_225
                  · refine z_iconstB F true dX1_glued_211 rfl ?_
                    refine z_goto F (tgt := 216) dX1_glued_212 (by decide) ?_
                    refine z_istore F dX1_glued_216 (Nat.le_of_ble_eq_true rfl) ?_
                    refine z_leq (L' := [_, _, _, _, _, _, _, _, _, _, _, _, _]) rfl ?_
                    refine z_iload F dX1_glued_218 rfl ?_
                    refine z_if_neB F (tgt := 252) dX1_glued_220 (by decide) (fun c_220 => ?_) (fun c_220 => ?_)
                    · refine z_aload F dX1_glued_252 rfl ?_
                      refine z_iload F dX1_glued_254 rfl ?_
                      refine z_iload F dX1_glued_256 rfl ?_
                      refine z_callV F (c_setj (nI (nx * ny)) (nI (d1 + d2)) _ k l (by omega) (by omega)) 2 rfl (lw_V q516 q418 q419 q116 q420) (by decide +kernel) ⟨Nat.le_of_ble_eq_true rfl, Nat.le_of_ble_eq_true rfl⟩ ⟨by omega, by omega⟩ [0, 26, 27] 28 ⟨rfl, rfl, rfl, ⟨Or.inl rfl, Or.inr rfl, Or.inr rfl, trivial⟩⟩ (fun h => nomatch h) (Nat.le_of_ble_eq_true rfl) ⟨⟨Or.inr (by first | exact ⟨rfl, pR_B _ (by decide)⟩ | exact ⟨rfl, uR_B (by decide) (by decide)⟩ | exact ⟨rfl, gR_B (by decide) (by decide) (by decide)⟩), Or.inr rfl, Or.inr trivial, Or.inr trivial, Or.inr trivial, Or.inr trivial, Or.inr trivial, Or.inr trivial, Or.inr trivial, Or.inr trivial, Or.inr trivial, Or.inr trivial, Or.inr trivial, Or.inr trivial, Or.inr trivial, Or.inr trivial, Or.inr trivial, Or.inr trivial, Or.inr trivial, Or.inr trivial, Or.inr trivial, Or.inr trivial, Or.inr rfl, Or.inr trivial, Or.inr rfl, Or.inr trivial, Or.inl rfl, Or.inl rfl, trivial⟩, rfl, rfl, rfl, Nat.le_of_ble_eq_true rfl⟩ rfl zC5 rfl rfl dX1_glued_258 (fun r_258 w_258 hp => ?_) (fun _ _ h => h.elim)
                      obtain ⟨rfl, rfl⟩ := hp
                      refine z_weq (w' := [zPl _ _, zO _ [zr _ _, zr _ _, zr _ _, zr _ _, zr _ _, zi _, zi _, zr _ _, zr _ _], zH, zH, zH, zH, zH, zH, zH, zH, zH, zH, zH, zH, zH, zH, zH, zH, zH, zH, zH, zH, zO _ [zi _, zi _, zr _ _], zAi 0 24 _, zO _ [zi _, zi _, zr _ _], zAi 0 24 _, zO _ [zi _, zi _, zr _ _], zAi 0 24 _]) rfl ?_
                      refine z_seq (S' := []) rfl ?_
                      refine z_loc _ ?_ (back _ (by omega) (if_pos (glT1 c_157 (by first | exact Or.inl c_173 | exact Or.inr c_184) c_208)).symm)
                      exact ⟨rfl, rfl, rfl, rfl, rfl, rfl, rfl, rfl, rfl, rfl, trivial⟩
                    · cases c_220
        · refine z_iconstB F true dX1_glued_134 rfl ?_
          refine z_goto F (tgt := 139) dX1_glued_135 (by decide) ?_
          refine z_istore F dX1_glued_139 (Nat.le_of_ble_eq_true rfl) ?_
          refine z_leq (L' := [_, _, _, _, _, _, _, _, _, _, _, _, _]) rfl ?_
          refine z_iload F dX1_glued_141 rfl ?_
          refine z_aload F dX1_glued_143 rfl ?_
          refine z_getN F zC5 (f := 0) rfl (Nat.le_of_ble_eq_true rfl) q245 rfl dX1_glued_145 ?_
          refine z_idivN F (by omega) (by omega) (by omega) dX1_glued_148 ?_
          refine z_iload F dX1_glued_149 rfl ?_
          refine z_aload F dX1_glued_151 rfl ?_
          refine z_getN F zC5 (f := 0) rfl (Nat.le_of_ble_eq_true rfl) q245 rfl dX1_glued_153 ?_
          refine z_idivN F (by omega) (by omega) (by omega) dX1_glued_156 ?_
          refine z_icmp_neN F (by omega) (by omega) (tgt := 164) dX1_glued_157 (by decide) (fun c_157 => ?_) (fun c_157 => ?_)
          · refine z_iconstB F false dX1_glued_164 rfl ?_
            refine z_istore F dX1_glued_165 (Nat.le_of_ble_eq_true rfl) ?_
            refine z_leq (L' := [_, _, _, _, _, _, _, _, _, _, _, _, _]) rfl ?_
            refine z_iload F dX1_glued_167 rfl ?_
            refine z_if_eqB F (tgt := 215) dX1_glued_169 (by decide) (fun c_169 => ?_) (fun c_169 => ?_)
            · refine z_iconstB F false dX1_glued_215 rfl ?_
              refine z_istore F dX1_glued_216 (Nat.le_of_ble_eq_true rfl) ?_
              refine z_leq (L' := [_, _, _, _, _, _, _, _, _, _, _, _, _]) rfl ?_
              refine z_iload F dX1_glued_218 rfl ?_
              refine z_if_neB F (tgt := 252) dX1_glued_220 (by decide) (fun c_220 => ?_) (fun c_220 => ?_)
              · cases c_220
              · refine z_iload F dX1_glued_223 rfl ?_
                refine z_if_eqB F (tgt := 261) dX1_glued_225 (by decide) (fun c_225 => ?_) (fun c_225 => ?_)
                · cases c_225
                · refine z_aload F dX1_glued_228 rfl ?_
                  refine z_iload F dX1_glued_230 rfl ?_
                  refine z_aload F dX1_glued_232 rfl ?_
                  refine z_getN F zC5 (f := 0) rfl (Nat.le_of_ble_eq_true rfl) q245 rfl dX1_glued_234 ?_
                  refine z_idivN F (by omega) (by omega) (by omega) dX1_glued_237 ?_
                  refine z_iload F dX1_glued_238 rfl ?_
                  refine z_aload F dX1_glued_240 rfl ?_
                  refine z_getN F zC5 (f := 0) rfl (Nat.le_of_ble_eq_true rfl) q245 rfl dX1_glued_242 ?_
                  refine z_idivN F (by omega) (by omega) (by omega) dX1_glued_245 ?_
                  refine z_callV F (c_has (nI ny) (nI d2) fq (k / nx) (l / nx) (by omega) (by omega)) 2 rfl (lw_V q524 q508 q509 q116 q510) (by decide +kernel) ⟨Nat.le_of_ble_eq_true rfl, Nat.le_of_ble_eq_true rfl⟩ ⟨by omega, by omega⟩ [0, 24, 25] 28 ⟨rfl, rfl, rfl, ⟨Or.inl rfl, Or.inr rfl, Or.inr rfl, trivial⟩⟩ (fun h => nomatch h) (Nat.le_of_ble_eq_true rfl) ⟨⟨Or.inr (by first | exact ⟨rfl, pR_B _ (by decide)⟩ | exact ⟨rfl, uR_B (by decide) (by decide)⟩ | exact ⟨rfl, gR_B (by decide) (by decide) (by decide)⟩), Or.inr rfl, Or.inr trivial, Or.inr trivial, Or.inr trivial, Or.inr trivial, Or.inr trivial, Or.inr trivial, Or.inr trivial, Or.inr trivial, Or.inr trivial, Or.inr trivial, Or.inr trivial, Or.inr trivial, Or.inr trivial, Or.inr trivial, Or.inr trivial, Or.inr trivial, Or.inr trivial, Or.inr trivial, Or.inr trivial, Or.inr trivial, Or.inr rfl, Or.inr trivial, Or.inl rfl, Or.inl rfl, Or.inr rfl, Or.inr trivial, trivial⟩, rfl, rfl, rfl, Nat.le_of_ble_eq_true rfl⟩ rfl zC5 rfl rfl dX1_glued_246 (fun r_246 w_246 hp => ?_) (fun _ _ h => h.elim)
                  obtain ⟨rfl, rfl⟩ := hp
                  refine z_weq (w' := [zPl _ _, zO _ [zr _ _, zr _ _, zr _ _, zr _ _, zr _ _, zi _, zi _, zr _ _, zr _ _], zH, zH, zH, zH, zH, zH, zH, zH, zH, zH, zH, zH, zH, zH, zH, zH, zH, zH, zH, zH, zO _ [zi _, zi _, zr _ _], zAi 0 24 _, zO _ [zi _, zi _, zr _ _], zAi 0 24 _, zO _ [zi _, zi _, zr _ _], zAi 0 24 _]) rfl ?_
                  refine z_seq (S' := zi _ :: _) rfl ?_
                  refine z_if_eqB F (tgt := 261) dX1_glued_249 (by decide) (fun c_249 => ?_) (fun c_249 => ?_)
                  · refine z_loc _ ?_ (back _ (by omega) (if_neg (glF (by first | exact (fun z => c_157 z.1) | exact (fun z => z.2.1.elim c_173 c_184) | exact (fun z => by rw [z.2.2] at c_208; cases c_208)) (fun z => by rw [z.2] at c_249; cases c_249))).symm)
                    exact ⟨rfl, rfl, rfl, rfl, rfl, rfl, rfl, rfl, rfl, rfl, trivial⟩
                  · refine z_aload F dX1_glued_252 rfl ?_
                    refine z_iload F dX1_glued_254 rfl ?_
                    refine z_iload F dX1_glued_256 rfl ?_
                    refine z_callV F (c_setj (nI (nx * ny)) (nI (d1 + d2)) _ k l (by omega) (by omega)) 2 rfl (lw_V q516 q418 q419 q116 q420) (by decide +kernel) ⟨Nat.le_of_ble_eq_true rfl, Nat.le_of_ble_eq_true rfl⟩ ⟨by omega, by omega⟩ [0, 26, 27] 28 ⟨rfl, rfl, rfl, ⟨Or.inl rfl, Or.inr rfl, Or.inr rfl, trivial⟩⟩ (fun h => nomatch h) (Nat.le_of_ble_eq_true rfl) ⟨⟨Or.inr (by first | exact ⟨rfl, pR_B _ (by decide)⟩ | exact ⟨rfl, uR_B (by decide) (by decide)⟩ | exact ⟨rfl, gR_B (by decide) (by decide) (by decide)⟩), Or.inr rfl, Or.inr trivial, Or.inr trivial, Or.inr trivial, Or.inr trivial, Or.inr trivial, Or.inr trivial, Or.inr trivial, Or.inr trivial, Or.inr trivial, Or.inr trivial, Or.inr trivial, Or.inr trivial, Or.inr trivial, Or.inr trivial, Or.inr trivial, Or.inr trivial, Or.inr trivial, Or.inr trivial, Or.inr trivial, Or.inr trivial, Or.inr rfl, Or.inr trivial, Or.inr rfl, Or.inr trivial, Or.inl rfl, Or.inl rfl, trivial⟩, rfl, rfl, rfl, Nat.le_of_ble_eq_true rfl⟩ rfl zC5 rfl rfl dX1_glued_258 (fun r_258 w_258 hp => ?_) (fun _ _ h => h.elim)
                    obtain ⟨rfl, rfl⟩ := hp
                    refine z_weq (w' := [zPl _ _, zO _ [zr _ _, zr _ _, zr _ _, zr _ _, zr _ _, zi _, zi _, zr _ _, zr _ _], zH, zH, zH, zH, zH, zH, zH, zH, zH, zH, zH, zH, zH, zH, zH, zH, zH, zH, zH, zH, zO _ [zi _, zi _, zr _ _], zAi 0 24 _, zO _ [zi _, zi _, zr _ _], zAi 0 24 _, zO _ [zi _, zi _, zr _ _], zAi 0 24 _]) rfl ?_
                    refine z_seq (S' := []) rfl ?_
                    refine z_loc _ ?_ (back _ (by omega) (if_pos (glT2 c_131 c_249)).symm)
                    exact ⟨rfl, rfl, rfl, rfl, rfl, rfl, rfl, rfl, rfl, rfl, trivial⟩
            · cases c_169
          · refine z_iconstB F true dX1_glued_160 rfl ?_
            refine z_goto F (tgt := 165) dX1_glued_161 (by decide) ?_
            refine z_istore F dX1_glued_165 (Nat.le_of_ble_eq_true rfl) ?_
            refine z_leq (L' := [_, _, _, _, _, _, _, _, _, _, _, _, _]) rfl ?_
            refine z_iload F dX1_glued_167 rfl ?_
            refine z_if_eqB F (tgt := 215) dX1_glued_169 (by decide) (fun c_169 => ?_) (fun c_169 => ?_)
            · cases c_169
            · refine z_iload_n F dX1_glued_172 rfl ?_
              refine z_if_eqN F (by omega) (tgt := 187) dX1_glued_173 (by decide) (fun c_173 => ?_) (fun c_173 => ?_)
              · refine z_aload F dX1_glued_187 rfl ?_
                refine z_iload F dX1_glued_189 rfl ?_
                refine z_aload F dX1_glued_191 rfl ?_
                refine z_getN F zC5 (f := 0) rfl (Nat.le_of_ble_eq_true rfl) q245 rfl dX1_glued_193 ?_
                refine z_iremN F (by omega) (by omega) (by omega) dX1_glued_196 ?_
                refine z_iload F dX1_glued_197 rfl ?_
                refine z_aload F dX1_glued_199 rfl ?_
                refine z_getN F zC5 (f := 0) rfl (Nat.le_of_ble_eq_true rfl) q245 rfl dX1_glued_201 ?_
                refine z_iremN F (by omega) (by omega) (by omega) dX1_glued_204 ?_
                refine z_callV F (c_has (nI nx) (nI d1) fp (k % nx) (l % nx) (by omega) (by omega)) 2 rfl (lw_V q524 q508 q509 q116 q510) (by decide +kernel) ⟨Nat.le_of_ble_eq_true rfl, Nat.le_of_ble_eq_true rfl⟩ ⟨by omega, by omega⟩ [0, 22, 23] 28 ⟨rfl, rfl, rfl, ⟨Or.inl rfl, Or.inr rfl, Or.inr rfl, trivial⟩⟩ (fun h => nomatch h) (Nat.le_of_ble_eq_true rfl) ⟨⟨Or.inr (by first | exact ⟨rfl, pR_B _ (by decide)⟩ | exact ⟨rfl, uR_B (by decide) (by decide)⟩ | exact ⟨rfl, gR_B (by decide) (by decide) (by decide)⟩), Or.inr rfl, Or.inr trivial, Or.inr trivial, Or.inr trivial, Or.inr trivial, Or.inr trivial, Or.inr trivial, Or.inr trivial, Or.inr trivial, Or.inr trivial, Or.inr trivial, Or.inr trivial, Or.inr trivial, Or.inr trivial, Or.inr trivial, Or.inr trivial, Or.inr trivial, Or.inr trivial, Or.inr trivial, Or.inr trivial, Or.inr trivial, Or.inl rfl, Or.inl rfl, Or.inr rfl, Or.inr trivial, Or.inr rfl, Or.inr trivial, trivial⟩, rfl, rfl, rfl, Nat.le_of_ble_eq_true rfl⟩ rfl zC5 rfl rfl dX1_glued_205 (fun r_205 w_205 hp => ?_) (fun _ _ h => h.elim)
                obtain ⟨rfl, rfl⟩ := hp
                refine z_weq (w' := [zPl _ _, zO _ [zr _ _, zr _ _, zr _ _, zr _ _, zr _ _, zi _, zi _, zr _ _, zr _ _], zH, zH, zH, zH, zH, zH, zH, zH, zH, zH, zH, zH, zH, zH, zH, zH, zH, zH, zH, zH, zO _ [zi _, zi _, zr _ _], zAi 0 24 _, zO _ [zi _, zi _, zr _ _], zAi 0 24 _, zO _ [zi _, zi _, zr _ _], zAi 0 24 _]) rfl ?_
                refine z_seq (S' := zi _ :: _) rfl ?_
                refine z_if_eqB F (tgt := 215) dX1_glued_208 (by decide) (fun c_208 => ?_) (fun c_208 => ?_)
                · refine z_iconstB F false dX1_glued_215 rfl ?_
                  refine z_istore F dX1_glued_216 (Nat.le_of_ble_eq_true rfl) ?_
                  refine z_leq (L' := [_, _, _, _, _, _, _, _, _, _, _, _, _]) rfl ?_
                  refine z_iload F dX1_glued_218 rfl ?_
                  refine z_if_neB F (tgt := 252) dX1_glued_220 (by decide) (fun c_220 => ?_) (fun c_220 => ?_)
                  · cases c_220
                  · refine z_iload F dX1_glued_223 rfl ?_
                    refine z_if_eqB F (tgt := 261) dX1_glued_225 (by decide) (fun c_225 => ?_) (fun c_225 => ?_)
                    · cases c_225
                    · refine z_aload F dX1_glued_228 rfl ?_
                      refine z_iload F dX1_glued_230 rfl ?_
                      refine z_aload F dX1_glued_232 rfl ?_
                      refine z_getN F zC5 (f := 0) rfl (Nat.le_of_ble_eq_true rfl) q245 rfl dX1_glued_234 ?_
                      refine z_idivN F (by omega) (by omega) (by omega) dX1_glued_237 ?_
                      refine z_iload F dX1_glued_238 rfl ?_
                      refine z_aload F dX1_glued_240 rfl ?_
                      refine z_getN F zC5 (f := 0) rfl (Nat.le_of_ble_eq_true rfl) q245 rfl dX1_glued_242 ?_
                      refine z_idivN F (by omega) (by omega) (by omega) dX1_glued_245 ?_
                      refine z_callV F (c_has (nI ny) (nI d2) fq (k / nx) (l / nx) (by omega) (by omega)) 2 rfl (lw_V q524 q508 q509 q116 q510) (by decide +kernel) ⟨Nat.le_of_ble_eq_true rfl, Nat.le_of_ble_eq_true rfl⟩ ⟨by omega, by omega⟩ [0, 24, 25] 28 ⟨rfl, rfl, rfl, ⟨Or.inl rfl, Or.inr rfl, Or.inr rfl, trivial⟩⟩ (fun h => nomatch h) (Nat.le_of_ble_eq_true rfl) ⟨⟨Or.inr (by first | exact ⟨rfl, pR_B _ (by decide)⟩ | exact ⟨rfl, uR_B (by decide) (by decide)⟩ | exact ⟨rfl, gR_B (by decide) (by decide) (by decide)⟩), Or.inr rfl, Or.inr trivial, Or.inr trivial, Or.inr trivial, Or.inr trivial, Or.inr trivial, Or.inr trivial, Or.inr trivial, Or.inr trivial, Or.inr trivial, Or.inr trivial, Or.inr trivial, Or.inr trivial, Or.inr trivial, Or.inr trivial, Or.inr trivial, Or.inr trivial, Or.inr trivial, Or.inr trivial, Or.inr trivial, Or.inr trivial, Or.inr rfl, Or.inr trivial, Or.inl rfl, Or.inl rfl, Or.inr rfl, Or.inr trivial, trivial⟩, rfl, rfl, rfl, Nat.le_of_ble_eq_true rfl⟩ rfl zC5 rfl rfl dX1_glued_246 (fun r_246 w_246 hp => ?_) (fun _ _ h => h.elim)
                      obtain ⟨rfl, rfl⟩ := hp
                      refine z_weq (w' := [zPl _ _, zO _ [zr _ _, zr _ _, zr _ _, zr _ _, zr _ _, zi _, zi _, zr _ _, zr _ _], zH, zH, zH, zH, zH, zH, zH, zH, zH, zH, zH, zH, zH, zH, zH, zH, zH, zH, zH, zH, zO _ [zi _, zi _, zr _ _], zAi 0 24 _, zO _ [zi _, zi _, zr _ _], zAi 0 24 _, zO _ [zi _, zi _, zr _ _], zAi 0 24 _]) rfl ?_
                      refine z_seq (S' := zi _ :: _) rfl ?_
                      refine z_if_eqB F (tgt := 261) dX1_glued_249 (by decide) (fun c_249 => ?_) (fun c_249 => ?_)
                      · refine z_loc _ ?_ (back _ (by omega) (if_neg (glF (by first | exact (fun z => c_157 z.1) | exact (fun z => z.2.1.elim c_173 c_184) | exact (fun z => by rw [z.2.2] at c_208; cases c_208)) (fun z => by rw [z.2] at c_249; cases c_249))).symm)
                        exact ⟨rfl, rfl, rfl, rfl, rfl, rfl, rfl, rfl, rfl, rfl, trivial⟩
                      · refine z_aload F dX1_glued_252 rfl ?_
                        refine z_iload F dX1_glued_254 rfl ?_
                        refine z_iload F dX1_glued_256 rfl ?_
                        refine z_callV F (c_setj (nI (nx * ny)) (nI (d1 + d2)) _ k l (by omega) (by omega)) 2 rfl (lw_V q516 q418 q419 q116 q420) (by decide +kernel) ⟨Nat.le_of_ble_eq_true rfl, Nat.le_of_ble_eq_true rfl⟩ ⟨by omega, by omega⟩ [0, 26, 27] 28 ⟨rfl, rfl, rfl, ⟨Or.inl rfl, Or.inr rfl, Or.inr rfl, trivial⟩⟩ (fun h => nomatch h) (Nat.le_of_ble_eq_true rfl) ⟨⟨Or.inr (by first | exact ⟨rfl, pR_B _ (by decide)⟩ | exact ⟨rfl, uR_B (by decide) (by decide)⟩ | exact ⟨rfl, gR_B (by decide) (by decide) (by decide)⟩), Or.inr rfl, Or.inr trivial, Or.inr trivial, Or.inr trivial, Or.inr trivial, Or.inr trivial, Or.inr trivial, Or.inr trivial, Or.inr trivial, Or.inr trivial, Or.inr trivial, Or.inr trivial, Or.inr trivial, Or.inr trivial, Or.inr trivial, Or.inr trivial, Or.inr trivial, Or.inr trivial, Or.inr trivial, Or.inr trivial, Or.inr trivial, Or.inr rfl, Or.inr trivial, Or.inr rfl, Or.inr trivial, Or.inl rfl, Or.inl rfl, trivial⟩, rfl, rfl, rfl, Nat.le_of_ble_eq_true rfl⟩ rfl zC5 rfl rfl dX1_glued_258 (fun r_258 w_258 hp => ?_) (fun _ _ h => h.elim)
                        obtain ⟨rfl, rfl⟩ := hp
                        refine z_weq (w' := [zPl _ _, zO _ [zr _ _, zr _ _, zr _ _, zr _ _, zr _ _, zi _, zi _, zr _ _, zr _ _], zH, zH, zH, zH, zH, zH, zH, zH, zH, zH, zH, zH, zH, zH, zH, zH, zH, zH, zH, zH, zO _ [zi _, zi _, zr _ _], zAi 0 24 _, zO _ [zi _, zi _, zr _ _], zAi 0 24 _, zO _ [zi _, zi _, zr _ _], zAi 0 24 _]) rfl ?_
                        refine z_seq (S' := []) rfl ?_
                        refine z_loc _ ?_ (back _ (by omega) (if_pos (glT2 c_131 c_249)).symm)
                        exact ⟨rfl, rfl, rfl, rfl, rfl, rfl, rfl, rfl, rfl, rfl, trivial⟩
                · refine z_iconstB F true dX1_glued_211 rfl ?_
                  refine z_goto F (tgt := 216) dX1_glued_212 (by decide) ?_
                  refine z_istore F dX1_glued_216 (Nat.le_of_ble_eq_true rfl) ?_
                  refine z_leq (L' := [_, _, _, _, _, _, _, _, _, _, _, _, _]) rfl ?_
                  refine z_iload F dX1_glued_218 rfl ?_
                  refine z_if_neB F (tgt := 252) dX1_glued_220 (by decide) (fun c_220 => ?_) (fun c_220 => ?_)
                  · refine z_aload F dX1_glued_252 rfl ?_
                    refine z_iload F dX1_glued_254 rfl ?_
                    refine z_iload F dX1_glued_256 rfl ?_
                    refine z_callV F (c_setj (nI (nx * ny)) (nI (d1 + d2)) _ k l (by omega) (by omega)) 2 rfl (lw_V q516 q418 q419 q116 q420) (by decide +kernel) ⟨Nat.le_of_ble_eq_true rfl, Nat.le_of_ble_eq_true rfl⟩ ⟨by omega, by omega⟩ [0, 26, 27] 28 ⟨rfl, rfl, rfl, ⟨Or.inl rfl, Or.inr rfl, Or.inr rfl, trivial⟩⟩ (fun h => nomatch h) (Nat.le_of_ble_eq_true rfl) ⟨⟨Or.inr (by first | exact ⟨rfl, pR_B _ (by decide)⟩ | exact ⟨rfl, uR_B (by decide) (by decide)⟩ | exact ⟨rfl, gR_B (by decide) (by decide) (by decide)⟩), Or.inr rfl, Or.inr trivial, Or.inr trivial, Or.inr trivial, Or.inr trivial, Or.inr trivial, Or.inr trivial, Or.inr trivial, Or.inr trivial, Or.inr trivial, Or.inr trivial, Or.inr trivial, Or.inr trivial, Or.inr trivial, Or.inr trivial, Or.inr trivial, Or.inr trivial, Or.inr trivial, Or.inr trivial, Or.inr trivial, Or.inr trivial, Or.inr rfl, Or.inr trivial, Or.inr rfl, Or.inr trivial, Or.inl rfl, Or.inl rfl, trivial⟩, rfl, rfl, rfl, Nat.le_of_ble_eq_true rfl⟩ rfl zC5 rfl rfl dX1_glued_258 (fun r_258 w_258 hp => ?_) (fun _ _ h => h.elim)
                    obtain ⟨rfl, rfl⟩ := hp
                    refine z_weq (w' := [zPl _ _, zO _ [zr _ _, zr _ _, zr _ _, zr _ _, zr _ _, zi _, zi _, zr _ _, zr _ _], zH, zH, zH, zH, zH, zH, zH, zH, zH, zH, zH, zH, zH, zH, zH, zH, zH, zH, zH, zH, zO _ [zi _, zi _, zr _ _], zAi 0 24 _, zO _ [zi _, zi _, zr _ _], zAi 0 24 _, zO _ [zi _, zi _, zr _ _], zAi 0 24 _]) rfl ?_
                    refine z_seq (S' := []) rfl ?_
                    refine z_loc _ ?_ (back _ (by omega) (if_pos (glT1 c_157 (by first | exact Or.inl c_173 | exact Or.inr c_184) c_208)).symm)
                    exact ⟨rfl, rfl, rfl, rfl, rfl, rfl, rfl, rfl, rfl, rfl, trivial⟩
                  · cases c_220
              · refine z_iload F dX1_glued_176 rfl ?_
                refine z_aload F dX1_glued_178 rfl ?_
                refine z_getN F zC5 (f := 0) rfl (Nat.le_of_ble_eq_true rfl) q245 rfl dX1_glued_180 ?_
                refine z_idivN F (by omega) (by omega) (by omega) dX1_glued_183 ?_
                refine z_if_neN F (by omega) (tgt := 215) dX1_glued_184 (by decide) (fun c_184 => ?_) (fun c_184 => ?_)
                · refine z_iconstB F false dX1_glued_215 rfl ?_
                  refine z_istore F dX1_glued_216 (Nat.le_of_ble_eq_true rfl) ?_
                  refine z_leq (L' := [_, _, _, _, _, _, _, _, _, _, _, _, _]) rfl ?_
                  refine z_iload F dX1_glued_218 rfl ?_
                  refine z_if_neB F (tgt := 252) dX1_glued_220 (by decide) (fun c_220 => ?_) (fun c_220 => ?_)
                  · cases c_220
                  · refine z_iload F dX1_glued_223 rfl ?_
                    refine z_if_eqB F (tgt := 261) dX1_glued_225 (by decide) (fun c_225 => ?_) (fun c_225 => ?_)
                    · cases c_225
                    · refine z_aload F dX1_glued_228 rfl ?_
                      refine z_iload F dX1_glued_230 rfl ?_
                      refine z_aload F dX1_glued_232 rfl ?_
                      refine z_getN F zC5 (f := 0) rfl (Nat.le_of_ble_eq_true rfl) q245 rfl dX1_glued_234 ?_
                      refine z_idivN F (by omega) (by omega) (by omega) dX1_glued_237 ?_
                      refine z_iload F dX1_glued_238 rfl ?_
                      refine z_aload F dX1_glued_240 rfl ?_
                      refine z_getN F zC5 (f := 0) rfl (Nat.le_of_ble_eq_true rfl) q245 rfl dX1_glued_242 ?_
                      refine z_idivN F (by omega) (by omega) (by omega) dX1_glued_245 ?_
                      refine z_callV F (c_has (nI ny) (nI d2) fq (k / nx) (l / nx) (by omega) (by omega)) 2 rfl (lw_V q524 q508 q509 q116 q510) (by decide +kernel) ⟨Nat.le_of_ble_eq_true rfl, Nat.le_of_ble_eq_true rfl⟩ ⟨by omega, by omega⟩ [0, 24, 25] 28 ⟨rfl, rfl, rfl, ⟨Or.inl rfl, Or.inr rfl, Or.inr rfl, trivial⟩⟩ (fun h => nomatch h) (Nat.le_of_ble_eq_true rfl) ⟨⟨Or.inr (by first | exact ⟨rfl, pR_B _ (by decide)⟩ | exact ⟨rfl, uR_B (by decide) (by decide)⟩ | exact ⟨rfl, gR_B (by decide) (by decide) (by decide)⟩), Or.inr rfl, Or.inr trivial, Or.inr trivial, Or.inr trivial, Or.inr trivial, Or.inr trivial, Or.inr trivial, Or.inr trivial, Or.inr trivial, Or.inr trivial, Or.inr trivial, Or.inr trivial, Or.inr trivial, Or.inr trivial, Or.inr trivial, Or.inr trivial, Or.inr trivial, Or.inr trivial, Or.inr trivial, Or.inr trivial, Or.inr trivial, Or.inr rfl, Or.inr trivial, Or.inl rfl, Or.inl rfl, Or.inr rfl, Or.inr trivial, trivial⟩, rfl, rfl, rfl, Nat.le_of_ble_eq_true rfl⟩ rfl zC5 rfl rfl dX1_glued_246 (fun r_246 w_246 hp => ?_) (fun _ _ h => h.elim)
                      obtain ⟨rfl, rfl⟩ := hp
                      refine z_weq (w' := [zPl _ _, zO _ [zr _ _, zr _ _, zr _ _, zr _ _, zr _ _, zi _, zi _, zr _ _, zr _ _], zH, zH, zH, zH, zH, zH, zH, zH, zH, zH, zH, zH, zH, zH, zH, zH, zH, zH, zH, zH, zO _ [zi _, zi _, zr _ _], zAi 0 24 _, zO _ [zi _, zi _, zr _ _], zAi 0 24 _, zO _ [zi _, zi _, zr _ _], zAi 0 24 _]) rfl ?_
                      refine z_seq (S' := zi _ :: _) rfl ?_
                      refine z_if_eqB F (tgt := 261) dX1_glued_249 (by decide) (fun c_249 => ?_) (fun c_249 => ?_)
                      · refine z_loc _ ?_ (back _ (by omega) (if_neg (glF (by first | exact (fun z => c_157 z.1) | exact (fun z => z.2.1.elim c_173 c_184) | exact (fun z => by rw [z.2.2] at c_208; cases c_208)) (fun z => by rw [z.2] at c_249; cases c_249))).symm)
                        exact ⟨rfl, rfl, rfl, rfl, rfl, rfl, rfl, rfl, rfl, rfl, trivial⟩
                      · refine z_aload F dX1_glued_252 rfl ?_
                        refine z_iload F dX1_glued_254 rfl ?_
                        refine z_iload F dX1_glued_256 rfl ?_
                        refine z_callV F (c_setj (nI (nx * ny)) (nI (d1 + d2)) _ k l (by omega) (by omega)) 2 rfl (lw_V q516 q418 q419 q116 q420) (by decide +kernel) ⟨Nat.le_of_ble_eq_true rfl, Nat.le_of_ble_eq_true rfl⟩ ⟨by omega, by omega⟩ [0, 26, 27] 28 ⟨rfl, rfl, rfl, ⟨Or.inl rfl, Or.inr rfl, Or.inr rfl, trivial⟩⟩ (fun h => nomatch h) (Nat.le_of_ble_eq_true rfl) ⟨⟨Or.inr (by first | exact ⟨rfl, pR_B _ (by decide)⟩ | exact ⟨rfl, uR_B (by decide) (by decide)⟩ | exact ⟨rfl, gR_B (by decide) (by decide) (by decide)⟩), Or.inr rfl, Or.inr trivial, Or.inr trivial, Or.inr trivial, Or.inr trivial, Or.inr trivial, Or.inr trivial, Or.inr trivial, Or.inr trivial, Or.inr trivial, Or.inr trivial, Or.inr trivial, Or.inr trivial, Or.inr trivial, Or.inr trivial, Or.inr trivial, Or.inr trivial, Or.inr trivial, Or.inr trivial, Or.inr trivial, Or.inr trivial, Or.inr rfl, Or.inr trivial, Or.inr rfl, Or.inr trivial, Or.inl rfl, Or.inl rfl, trivial⟩, rfl, rfl, rfl, Nat.le_of_ble_eq_true rfl⟩ rfl zC5 rfl rfl dX1_glued_258 (fun r_258 w_258 hp => ?_) (fun _ _ h => h.elim)
                        obtain ⟨rfl, rfl⟩ := hp
                        refine z_weq (w' := [zPl _ _, zO _ [zr _ _, zr _ _, zr _ _, zr _ _, zr _ _, zi _, zi _, zr _ _, zr _ _], zH, zH, zH, zH, zH, zH, zH, zH, zH, zH, zH, zH, zH, zH, zH, zH, zH, zH, zH, zH, zO _ [zi _, zi _, zr _ _], zAi 0 24 _, zO _ [zi _, zi _, zr _ _], zAi 0 24 _, zO _ [zi _, zi _, zr _ _], zAi 0 24 _]) rfl ?_
                        refine z_seq (S' := []) rfl ?_
                        refine z_loc _ ?_ (back _ (by omega) (if_pos (glT2 c_131 c_249)).symm)
                        exact ⟨rfl, rfl, rfl, rfl, rfl, rfl, rfl, rfl, rfl, rfl, trivial⟩
                · refine z_aload F dX1_glued_187 rfl ?_
                  refine z_iload F dX1_glued_189 rfl ?_
                  refine z_aload F dX1_glued_191 rfl ?_
                  refine z_getN F zC5 (f := 0) rfl (Nat.le_of_ble_eq_true rfl) q245 rfl dX1_glued_193 ?_
                  refine z_iremN F (by omega) (by omega) (by omega) dX1_glued_196 ?_
                  refine z_iload F dX1_glued_197 rfl ?_
                  refine z_aload F dX1_glued_199 rfl ?_
                  refine z_getN F zC5 (f := 0) rfl (Nat.le_of_ble_eq_true rfl) q245 rfl dX1_glued_201 ?_
                  refine z_iremN F (by omega) (by omega) (by omega) dX1_glued_204 ?_
                  refine z_callV F (c_has (nI nx) (nI d1) fp (k % nx) (l % nx) (by omega) (by omega)) 2 rfl (lw_V q524 q508 q509 q116 q510) (by decide +kernel) ⟨Nat.le_of_ble_eq_true rfl, Nat.le_of_ble_eq_true rfl⟩ ⟨by omega, by omega⟩ [0, 22, 23] 28 ⟨rfl, rfl, rfl, ⟨Or.inl rfl, Or.inr rfl, Or.inr rfl, trivial⟩⟩ (fun h => nomatch h) (Nat.le_of_ble_eq_true rfl) ⟨⟨Or.inr (by first | exact ⟨rfl, pR_B _ (by decide)⟩ | exact ⟨rfl, uR_B (by decide) (by decide)⟩ | exact ⟨rfl, gR_B (by decide) (by decide) (by decide)⟩), Or.inr rfl, Or.inr trivial, Or.inr trivial, Or.inr trivial, Or.inr trivial, Or.inr trivial, Or.inr trivial, Or.inr trivial, Or.inr trivial, Or.inr trivial, Or.inr trivial, Or.inr trivial, Or.inr trivial, Or.inr trivial, Or.inr trivial, Or.inr trivial, Or.inr trivial, Or.inr trivial, Or.inr trivial, Or.inr trivial, Or.inr trivial, Or.inl rfl, Or.inl rfl, Or.inr rfl, Or.inr trivial, Or.inr rfl, Or.inr trivial, trivial⟩, rfl, rfl, rfl, Nat.le_of_ble_eq_true rfl⟩ rfl zC5 rfl rfl dX1_glued_205 (fun r_205 w_205 hp => ?_) (fun _ _ h => h.elim)
                  obtain ⟨rfl, rfl⟩ := hp
                  refine z_weq (w' := [zPl _ _, zO _ [zr _ _, zr _ _, zr _ _, zr _ _, zr _ _, zi _, zi _, zr _ _, zr _ _], zH, zH, zH, zH, zH, zH, zH, zH, zH, zH, zH, zH, zH, zH, zH, zH, zH, zH, zH, zH, zO _ [zi _, zi _, zr _ _], zAi 0 24 _, zO _ [zi _, zi _, zr _ _], zAi 0 24 _, zO _ [zi _, zi _, zr _ _], zAi 0 24 _]) rfl ?_
                  refine z_seq (S' := zi _ :: _) rfl ?_
                  refine z_if_eqB F (tgt := 215) dX1_glued_208 (by decide) (fun c_208 => ?_) (fun c_208 => ?_)
                  · refine z_iconstB F false dX1_glued_215 rfl ?_
                    refine z_istore F dX1_glued_216 (Nat.le_of_ble_eq_true rfl) ?_
                    refine z_leq (L' := [_, _, _, _, _, _, _, _, _, _, _, _, _]) rfl ?_
                    refine z_iload F dX1_glued_218 rfl ?_
                    refine z_if_neB F (tgt := 252) dX1_glued_220 (by decide) (fun c_220 => ?_) (fun c_220 => ?_)
                    · cases c_220
                    · refine z_iload F dX1_glued_223 rfl ?_
                      refine z_if_eqB F (tgt := 261) dX1_glued_225 (by decide) (fun c_225 => ?_) (fun c_225 => ?_)
                      · cases c_225
                      · refine z_aload F dX1_glued_228 rfl ?_
                        refine z_iload F dX1_glued_230 rfl ?_
                        refine z_aload F dX1_glued_232 rfl ?_
                        refine z_getN F zC5 (f := 0) rfl (Nat.le_of_ble_eq_true rfl) q245 rfl dX1_glued_234 ?_
                        refine z_idivN F (by omega) (by omega) (by omega) dX1_glued_237 ?_
                        refine z_iload F dX1_glued_238 rfl ?_
                        refine z_aload F dX1_glued_240 rfl ?_
                        refine z_getN F zC5 (f := 0) rfl (Nat.le_of_ble_eq_true rfl) q245 rfl dX1_glued_242 ?_
                        refine z_idivN F (by omega) (by omega) (by omega) dX1_glued_245 ?_
                        refine z_callV F (c_has (nI ny) (nI d2) fq (k / nx) (l / nx) (by omega) (by omega)) 2 rfl (lw_V q524 q508 q509 q116 q510) (by decide +kernel) ⟨Nat.le_of_ble_eq_true rfl, Nat.le_of_ble_eq_true rfl⟩ ⟨by omega, by omega⟩ [0, 24, 25] 28 ⟨rfl, rfl, rfl, ⟨Or.inl rfl, Or.inr rfl, Or.inr rfl, trivial⟩⟩ (fun h => nomatch h) (Nat.le_of_ble_eq_true rfl) ⟨⟨Or.inr (by first | exact ⟨rfl, pR_B _ (by decide)⟩ | exact ⟨rfl, uR_B (by decide) (by decide)⟩ | exact ⟨rfl, gR_B (by decide) (by decide) (by decide)⟩), Or.inr rfl, Or.inr trivial, Or.inr trivial, Or.inr trivial, Or.inr trivial, Or.inr trivial, Or.inr trivial, Or.inr trivial, Or.inr trivial, Or.inr trivial, Or.inr trivial, Or.inr trivial, Or.inr trivial, Or.inr trivial, Or.inr trivial, Or.inr trivial, Or.inr trivial, Or.inr trivial, Or.inr trivial, Or.inr trivial, Or.inr trivial, Or.inr rfl, Or.inr trivial, Or.inl rfl, Or.inl rfl, Or.inr rfl, Or.inr trivial, trivial⟩, rfl, rfl, rfl, Nat.le_of_ble_eq_true rfl⟩ rfl zC5 rfl rfl dX1_glued_246 (fun r_246 w_246 hp => ?_) (fun _ _ h => h.elim)
                        obtain ⟨rfl, rfl⟩ := hp
                        refine z_weq (w' := [zPl _ _, zO _ [zr _ _, zr _ _, zr _ _, zr _ _, zr _ _, zi _, zi _, zr _ _, zr _ _], zH, zH, zH, zH, zH, zH, zH, zH, zH, zH, zH, zH, zH, zH, zH, zH, zH, zH, zH, zH, zO _ [zi _, zi _, zr _ _], zAi 0 24 _, zO _ [zi _, zi _, zr _ _], zAi 0 24 _, zO _ [zi _, zi _, zr _ _], zAi 0 24 _]) rfl ?_
                        refine z_seq (S' := zi _ :: _) rfl ?_
                        refine z_if_eqB F (tgt := 261) dX1_glued_249 (by decide) (fun c_249 => ?_) (fun c_249 => ?_)
                        · refine z_loc _ ?_ (back _ (by omega) (if_neg (glF (by first | exact (fun z => c_157 z.1) | exact (fun z => z.2.1.elim c_173 c_184) | exact (fun z => by rw [z.2.2] at c_208; cases c_208)) (fun z => by rw [z.2] at c_249; cases c_249))).symm)
                          exact ⟨rfl, rfl, rfl, rfl, rfl, rfl, rfl, rfl, rfl, rfl, trivial⟩
                        · refine z_aload F dX1_glued_252 rfl ?_
                          refine z_iload F dX1_glued_254 rfl ?_
                          refine z_iload F dX1_glued_256 rfl ?_
                          refine z_callV F (c_setj (nI (nx * ny)) (nI (d1 + d2)) _ k l (by omega) (by omega)) 2 rfl (lw_V q516 q418 q419 q116 q420) (by decide +kernel) ⟨Nat.le_of_ble_eq_true rfl, Nat.le_of_ble_eq_true rfl⟩ ⟨by omega, by omega⟩ [0, 26, 27] 28 ⟨rfl, rfl, rfl, ⟨Or.inl rfl, Or.inr rfl, Or.inr rfl, trivial⟩⟩ (fun h => nomatch h) (Nat.le_of_ble_eq_true rfl) ⟨⟨Or.inr (by first | exact ⟨rfl, pR_B _ (by decide)⟩ | exact ⟨rfl, uR_B (by decide) (by decide)⟩ | exact ⟨rfl, gR_B (by decide) (by decide) (by decide)⟩), Or.inr rfl, Or.inr trivial, Or.inr trivial, Or.inr trivial, Or.inr trivial, Or.inr trivial, Or.inr trivial, Or.inr trivial, Or.inr trivial, Or.inr trivial, Or.inr trivial, Or.inr trivial, Or.inr trivial, Or.inr trivial, Or.inr trivial, Or.inr trivial, Or.inr trivial, Or.inr trivial, Or.inr trivial, Or.inr trivial, Or.inr trivial, Or.inr rfl, Or.inr trivial, Or.inr rfl, Or.inr trivial, Or.inl rfl, Or.inl rfl, trivial⟩, rfl, rfl, rfl, Nat.le_of_ble_eq_true rfl⟩ rfl zC5 rfl rfl dX1_glued_258 (fun r_258 w_258 hp => ?_) (fun _ _ h => h.elim)
                          obtain ⟨rfl, rfl⟩ := hp
                          refine z_weq (w' := [zPl _ _, zO _ [zr _ _, zr _ _, zr _ _, zr _ _, zr _ _, zi _, zi _, zr _ _, zr _ _], zH, zH, zH, zH, zH, zH, zH, zH, zH, zH, zH, zH, zH, zH, zH, zH, zH, zH, zH, zH, zO _ [zi _, zi _, zr _ _], zAi 0 24 _, zO _ [zi _, zi _, zr _ _], zAi 0 24 _, zO _ [zi _, zi _, zr _ _], zAi 0 24 _]) rfl ?_
                          refine z_seq (S' := []) rfl ?_
                          refine z_loc _ ?_ (back _ (by omega) (if_pos (glT2 c_131 c_249)).symm)
                          exact ⟨rfl, rfl, rfl, rfl, rfl, rfl, rfl, rfl, rfl, rfl, trivial⟩
                  · refine z_iconstB F true dX1_glued_211 rfl ?_
                    refine z_goto F (tgt := 216) dX1_glued_212 (by decide) ?_
                    refine z_istore F dX1_glued_216 (Nat.le_of_ble_eq_true rfl) ?_
                    refine z_leq (L' := [_, _, _, _, _, _, _, _, _, _, _, _, _]) rfl ?_
                    refine z_iload F dX1_glued_218 rfl ?_
                    refine z_if_neB F (tgt := 252) dX1_glued_220 (by decide) (fun c_220 => ?_) (fun c_220 => ?_)
                    · refine z_aload F dX1_glued_252 rfl ?_
                      refine z_iload F dX1_glued_254 rfl ?_
                      refine z_iload F dX1_glued_256 rfl ?_
                      refine z_callV F (c_setj (nI (nx * ny)) (nI (d1 + d2)) _ k l (by omega) (by omega)) 2 rfl (lw_V q516 q418 q419 q116 q420) (by decide +kernel) ⟨Nat.le_of_ble_eq_true rfl, Nat.le_of_ble_eq_true rfl⟩ ⟨by omega, by omega⟩ [0, 26, 27] 28 ⟨rfl, rfl, rfl, ⟨Or.inl rfl, Or.inr rfl, Or.inr rfl, trivial⟩⟩ (fun h => nomatch h) (Nat.le_of_ble_eq_true rfl) ⟨⟨Or.inr (by first | exact ⟨rfl, pR_B _ (by decide)⟩ | exact ⟨rfl, uR_B (by decide) (by decide)⟩ | exact ⟨rfl, gR_B (by decide) (by decide) (by decide)⟩), Or.inr rfl, Or.inr trivial, Or.inr trivial, Or.inr trivial, Or.inr trivial, Or.inr trivial, Or.inr trivial, Or.inr trivial, Or.inr trivial, Or.inr trivial, Or.inr trivial, Or.inr trivial, Or.inr trivial, Or.inr trivial, Or.inr trivial, Or.inr trivial, Or.inr trivial, Or.inr trivial, Or.inr trivial, Or.inr trivial, Or.inr trivial, Or.inr rfl, Or.inr trivial, Or.inr rfl, Or.inr trivial, Or.inl rfl, Or.inl rfl, trivial⟩, rfl, rfl, rfl, Nat.le_of_ble_eq_true rfl⟩ rfl zC5 rfl rfl dX1_glued_258 (fun r_258 w_258 hp => ?_) (fun _ _ h => h.elim)
                      obtain ⟨rfl, rfl⟩ := hp
                      refine z_weq (w' := [zPl _ _, zO _ [zr _ _, zr _ _, zr _ _, zr _ _, zr _ _, zi _, zi _, zr _ _, zr _ _], zH, zH, zH, zH, zH, zH, zH, zH, zH, zH, zH, zH, zH, zH, zH, zH, zH, zH, zH, zH, zO _ [zi _, zi _, zr _ _], zAi 0 24 _, zO _ [zi _, zi _, zr _ _], zAi 0 24 _, zO _ [zi _, zi _, zr _ _], zAi 0 24 _]) rfl ?_
                      refine z_seq (S' := []) rfl ?_
                      refine z_loc _ ?_ (back _ (by omega) (if_pos (glT1 c_157 (by first | exact Or.inl c_173 | exact Or.inr c_184) c_208)).symm)
                      exact ⟨rfl, rfl, rfl, rfl, rfl, rfl, rfl, rfl, rfl, rfl, trivial⟩
                    · cases c_220
  have rows : ∀ (k0 n0 : Nat), k0 ≤ 10 → n0 ≤ 80 → (Z X [some (zr 1 0), some (zi (nI j)), some (zi (nI kd)), some (zi (nI x)), some (zi (nI y)), some (zr 22 0), some (zr 24 0), some (zr 26 0), none, none, none, none, none] [] [zPl (zput (zput (pR P) x (zr 22 0)) y (zr 24 0)) (zput (zput P x none) y none), xO t fp0, zH, zH, zH, zH, zH, zH, zH, zH, zH, zH, zH, zH, zH, zH, zH, zH, zH, zH, zH, zH, eNet 23 (nI nx) (nI d1), zAi 0 24 fp, eNet 25 (nI ny) (nI d2), zAi 0 24 fq, eNet 27 (nI (nx * ny)) (nI (d1 + d2)), zAi 0 24 (cgk kd nx fp fq (nx * ny))] k0 n0 273) → ∀ (m k : Nat), nx * ny - k < m → k ≤ nx * ny → Z X [some (zr 1 0), some (zi (nI j)), some (zi (nI kd)), some (zi (nI x)), some (zi (nI y)), some (zr 22 0), some (zr 24 0), some (zr 26 0), some (zi (nI k)), none, none, none, none] [] [zPl (zput (zput (pR P) x (zr 22 0)) y (zr 24 0)) (zput (zput P x none) y none), xO t fp0, zH, zH, zH, zH, zH, zH, zH, zH, zH, zH, zH, zH, zH, zH, zH, zH, zH, zH, zH, zH, eNet 23 (nI nx) (nI d1), zAi 0 24 fp, eNet 25 (nI ny) (nI d2), zAi 0 24 fq, eNet 27 (nI (nx * ny)) (nI (d1 + d2)), zAi 0 24 (cgk kd nx fp fq k)] k0 n0 95 := by
    intro k0 n0 hk0 hn0 kk m
    induction m with
    | zero => intro k hm; omega
    | succ m ih =>
      intro k hm hk
      refine z_iload F dX1_glued_95 rfl ?_
      refine z_aload F dX1_glued_97 rfl ?_
      refine z_getN F zC5 (f := 0) rfl (Nat.le_of_ble_eq_true rfl) q245 rfl dX1_glued_99 ?_
      refine z_icmp_geN F (by omega) (by omega) (tgt := 273) dX1_glued_102 (by decide) (fun c_102 => ?_) (fun c_102 => ?_)
      · rw [show k = nx * ny by omega]
        refine z_loc _ ?_ kk
        exact ⟨rfl, rfl, rfl, rfl, rfl, rfl, rfl, rfl, trivial⟩
      · refine z_iconst F (nI 0) dX1_glued_105 rfl ?_
        refine z_istore F dX1_glued_106 (Nat.le_of_ble_eq_true rfl) ?_
        refine z_leq (L' := [_, _, _, _, _, _, _, _, _, _, _, _, _]) rfl ?_
        exact inner k k0 n0 (by omega) hk0 hn0 (ih (k + 1) (by omega) (by omega)) (k + 1) 0 (by omega) (by omega)
  have fin : ∀ (k0 n0 : Nat), k0 ≤ 10 → n0 ≤ 80 → (Z X [some (zr 1 0), some (zi (nI j)), some (zi (nI kd)), some (zi (nI x)), some (zi (nI y)), some (zr 22 0), some (zr 24 0), some (zr 26 0), none, none, none, none, none] [] [zPl (zput (zput (pR P) x (zr 22 0)) y (zr 24 0)) (zput (zput P x none) y none), xO t fp0, zH, zH, zH, zH, zH, zH, zH, zH, zH, zH, zH, zH, zH, zH, zH, zH, zH, zH, zH, zH, eNet 23 (nI nx) (nI d1), zAi 0 24 fp, eNet 25 (nI ny) (nI d2), zAi 0 24 fq, eNet 27 (nI (nx * ny)) (nI (d1 + d2)), zAi 0 24 (cgk kd nx fp fq (nx * ny))] k0 n0 273) := by
    intro k0 n0 hk0 hn0
    refine z_aload_n F dX1_glued_273 rfl ?_
    refine z_unfocusH F rfl y 24 25 hy zput_self rfl rfl (Nat.le_of_ble_eq_true rfl) (Nat.le_of_ble_eq_true rfl) [zO _ [zr _ _, zr _ _, zr _ _, zr _ _, zr _ _, zi _, zi _, zr _ _, zr _ _], zH, zH, zH, zH, zH, zH, zH, zH, zH, zH, zH, zH, zH, zH, zH, zH, zH, zH, zH, zH, zO _ [zi _, zi _, zr _ _], zAi 0 24 _, zH, zH, zO _ [zi _, zi _, zr _ _], zAi 0 24 _] rfl ⟨Nat.le_of_ble_eq_true rfl, Nat.le_of_ble_eq_true rfl⟩ ⟨rfl, trivial, trivial, trivial, trivial, trivial, trivial, trivial, trivial, trivial, trivial, trivial, trivial, trivial, trivial, trivial, trivial, trivial, trivial, trivial, trivial, rfl, trivial, trivial, trivial, rfl, trivial, trivial⟩ (gOV (by decide)) rfl rfl ?_
    refine z_weq (w' := zPl _ _ :: _) (congrArg (fun z => z :: _) (gPl hxy hPy)) ?_
    refine z_get F zC1 (f := 0) rfl (Nat.le_of_ble_eq_true rfl) q313 rfl dX1_glued_274 ?_
    refine z_unfocusH F rfl x 22 23 hx zput_self rfl rfl (Nat.le_of_ble_eq_true rfl) (Nat.le_of_ble_eq_true rfl) [zO _ [zr _ _, zr _ _, zr _ _, zr _ _, zr _ _, zi _, zi _, zr _ _, zr _ _], zH, zH, zH, zH, zH, zH, zH, zH, zH, zH, zH, zH, zH, zH, zH, zH, zH, zH, zH, zH, zH, zH, zH, zH, zO _ [zi _, zi _, zr _ _], zAi 0 24 _] rfl ⟨Nat.le_of_ble_eq_true rfl, Nat.le_of_ble_eq_true rfl⟩ ⟨rfl, trivial, trivial, trivial, trivial, trivial, trivial, trivial, trivial, trivial, trivial, trivial, trivial, trivial, trivial, trivial, trivial, trivial, trivial, trivial, trivial, trivial, trivial, trivial, trivial, rfl, trivial, trivial⟩ uOV rfl rfl ?_
    refine z_weq (w' := zPl (pR P) P :: _) (congrArg (fun z => z :: _) (uPl3 hPx)) ?_
    refine z_iload_n F dX1_glued_277 rfl ?_
    refine z_aload F dX1_glued_278 rfl ?_
    refine z_aastP F (by omega) rfl dX1_glued_280 ?_
    refine z_weq (w' := [_, _, _, _, _, _, _, _, _, _, _, _, _, _, _, _, _, _, _, _, _, _, _, _, _, _, _, _]) rfl ?_
    refine z_loc [some _, some _, some _, some _, some _, none, none, none, none, none, none, none, none] ⟨rfl, rfl, rfl, rfl, rfl, trivial⟩ ?_
    refine z_unfocus F rfl j 26 27 22 hj zput_self rfl rfl (Nat.le_of_ble_eq_true rfl) (Nat.le_of_ble_eq_true rfl) (Nat.le_of_ble_eq_true rfl) (Nat.le_of_ble_eq_true rfl) [zO _ [zr _ _, zr _ _, zr _ _, zr _ _, zr _ _, zi _, zi _, zr _ _, zr _ _], zH, zH, zH, zH, zH, zH, zH, zH, zH, zH, zH, zH, zH, zH, zH, zH, zH, zH, zH, zH] rfl ⟨rfl, trivial, trivial, trivial, trivial, trivial, trivial, trivial, trivial, trivial, trivial, trivial, trivial, trivial, trivial, trivial, trivial, trivial, trivial, trivial, trivial, trivial⟩ uOK rfl rfl ?_
    refine z_weq (w' := zPl (pR (zput P j (some _))) (zput P j (some _)) :: _) (congrArg (fun z => z :: _) uPl1) ?_
    refine z_iconstB F true dX1_glued_281 rfl ?_
    exact z_zret F E rfl rfl dX1_glued_282 (by omega) (by omega) (⟨rfl, rfl⟩)
  refine z_aload_n F dX1_glued_0 rfl ?_
  refine z_iload_n F dX1_glued_1 rfl ?_
  refine z_callV F (c_netAt_ok P t fp0 x hx hPx) 1 rfl (lw_V q429 q431 qs0 q109 q432) (by decide +kernel) ⟨Nat.le_of_ble_eq_true rfl, Nat.le_of_ble_eq_true rfl⟩ ⟨by omega, by omega⟩ [0, 1, 2, 3, 4, 5, 6, 7, 8, 9, 10, 11, 12, 13, 14, 15, 16, 17, 18, 19, 20, 21] 22 ⟨rfl, rfl, rfl, ⟨Or.inr (congrArg some (zrnP rfl).symm), Or.inr rfl, Or.inl rfl, Or.inl rfl, Or.inl rfl, Or.inl rfl, Or.inl rfl, Or.inl rfl, Or.inl rfl, Or.inl rfl, Or.inl rfl, Or.inl rfl, Or.inl rfl, Or.inl rfl, Or.inl rfl, Or.inl rfl, Or.inl rfl, Or.inl rfl, Or.inl rfl, Or.inl rfl, Or.inl rfl, Or.inl rfl, trivial⟩⟩ (fun _ => rfl) (Nat.le_of_ble_eq_true rfl) ⟨⟨Or.inl rfl, Or.inl rfl, Or.inr trivial, Or.inr trivial, Or.inr trivial, Or.inr trivial, Or.inr trivial, Or.inr trivial, Or.inr trivial, Or.inr trivial, Or.inr trivial, Or.inr trivial, Or.inr trivial, Or.inr trivial, Or.inr trivial, Or.inr trivial, Or.inr trivial, Or.inr trivial, Or.inr trivial, Or.inr trivial, Or.inr trivial, Or.inr trivial, trivial⟩, rfl, rfl, rfl, Nat.le_of_ble_eq_true rfl⟩ rfl zC1 rfl rfl dX1_glued_2 (fun r_2 w_2 hp => ?_) (fun _ _ h => h.elim)
  obtain ⟨rfl, rfl⟩ := hp
  refine z_weq (w' := zPl (pR _) _ :: _) (congrArg (fun z => z :: _) (zrnP rfl)) ?_
  refine z_weq (w' := [zPl _ _, zO _ [zr _ _, zr _ _, zr _ _, zr _ _, zr _ _, zi _, zi _, zr _ _, zr _ _], zH, zH, zH, zH, zH, zH, zH, zH, zH, zH, zH, zH, zH, zH, zH, zH, zH, zH, zH, zH]) rfl ?_
  refine z_seq (S' := zr _ _ :: _) rfl ?_
  refine z_astore F dX1_glued_5 (Nat.le_of_ble_eq_true rfl) ?_
  refine z_leq (L' := [_, _, _, _, _, _, _, _, _, _, _, _, _]) rfl ?_
  refine z_foc F x hx hPx (N := 22) (M := 23) (L' := [_, _, _, _, _, some (zr 22 0), _, _, _, _, _, _, _]) (S' := []) rfl rfl (Nat.le_of_ble_eq_true rfl) ⟨rfl, trivial, trivial, trivial, trivial, trivial, trivial, trivial, trivial, trivial, trivial, trivial, trivial, trivial, trivial, trivial, trivial, trivial, trivial, trivial, trivial, trivial⟩ ⟨Or.inl rfl, Or.inl rfl, Or.inl rfl, Or.inl rfl, Or.inl rfl, Or.inr ⟨rfl, rfl⟩, Or.inl rfl, Or.inl rfl, Or.inl rfl, Or.inl rfl, Or.inl rfl, Or.inl rfl, Or.inl rfl, trivial⟩ rfl trivial rfl ?_
  refine z_weq (w' := [zPl _ _, zO _ [zr _ _, zr _ _, zr _ _, zr _ _, zr _ _, zi _, zi _, zr _ _, zr _ _], zH, zH, zH, zH, zH, zH, zH, zH, zH, zH, zH, zH, zH, zH, zH, zH, zH, zH, zH, zH, zO _ [zi _, zi _, zr _ _], zAi 0 24 _]) rfl ?_
  refine z_aload_n F dX1_glued_7 rfl ?_
  refine z_iload F dX1_glued_8 rfl ?_
  refine z_callV F (c_netAt2 P t fp0 x y 0 (2 * y + 1) hy (show zput (pR P) x (zr 22 0) y = _ by unfold zput; rw [if_neg hxy]; exact pR_some hPy)) 1 rfl (lw_V q429 q431 qs0 q109 q432) (by decide +kernel) ⟨Nat.le_of_ble_eq_true rfl, Nat.le_of_ble_eq_true rfl⟩ ⟨by omega, by omega⟩ [0, 1, 2, 3, 4, 5, 6, 7, 8, 9, 10, 11, 12, 13, 14, 15, 16, 17, 18, 19, 20, 21, 22, 23] 24 ⟨rfl, rfl, rfl, ⟨Or.inr (congrArg some (zrnU rfl rfl).symm), Or.inr rfl, Or.inl rfl, Or.inl rfl, Or.inl rfl, Or.inl rfl, Or.inl rfl, Or.inl rfl, Or.inl rfl, Or.inl rfl, Or.inl rfl, Or.inl rfl, Or.inl rfl, Or.inl rfl, Or.inl rfl, Or.inl rfl, Or.inl rfl, Or.inl rfl, Or.inl rfl, Or.inl rfl, Or.inl rfl, Or.inl rfl, Or.inl rfl, Or.inl rfl, trivial⟩⟩ (fun _ => rfl) (Nat.le_of_ble_eq_true rfl) ⟨⟨Or.inl rfl, Or.inl rfl, Or.inr trivial, Or.inr trivial, Or.inr trivial, Or.inr trivial, Or.inr trivial, Or.inr trivial, Or.inr trivial, Or.inr trivial, Or.inr trivial, Or.inr trivial, Or.inr trivial, Or.inr trivial, Or.inr trivial, Or.inr trivial, Or.inr trivial, Or.inr trivial, Or.inr trivial, Or.inr trivial, Or.inr trivial, Or.inr trivial, Or.inr rfl, Or.inr trivial, trivial⟩, rfl, rfl, rfl, Nat.le_of_ble_eq_true rfl⟩ rfl zC1 rfl rfl dX1_glued_10 (fun r_10 w_10 hp => ?_) (fun _ _ h => h.elim)
  obtain ⟨rfl, rfl⟩ := hp
  refine z_weq (w' := zPl (zput (pR _) _ _) _ :: _) (congrArg (fun z => z :: _) (zrnU rfl rfl)) ?_
  refine z_weq (w' := [zPl _ _, zO _ [zr _ _, zr _ _, zr _ _, zr _ _, zr _ _, zi _, zi _, zr _ _, zr _ _], zH, zH, zH, zH, zH, zH, zH, zH, zH, zH, zH, zH, zH, zH, zH, zH, zH, zH, zH, zH, zO _ [zi _, zi _, zr _ _], zAi 0 24 _]) rfl ?_
  refine z_seq (S' := zr _ _ :: _) rfl ?_
  refine z_astore F dX1_glued_13 (Nat.le_of_ble_eq_true rfl) ?_
  refine z_leq (L' := [_, _, _, _, _, _, _, _, _, _, _, _, _]) rfl ?_
  refine z_foc2 F y hy (show zput P x none y = _ by unfold zput; rw [if_neg hxy]; exact hPy) (show zput (pR P) x (zr 22 0) y = _ by unfold zput; rw [if_neg hxy]; exact pR_some hPy) (fun N hN i => uR_N (by omega) (by omega) i) (N := 24) (M := 25) (L' := [_, _, _, _, _, _, some (zr 24 0), _, _, _, _, _, _]) (S' := []) rfl rfl (Nat.le_of_ble_eq_true rfl) (by exact ⟨rfl, trivial, trivial, trivial, trivial, trivial, trivial, trivial, trivial, trivial, trivial, trivial, trivial, trivial, trivial, trivial, trivial, trivial, trivial, trivial, trivial, rfl, trivial, trivial⟩) (by exact ⟨Or.inl rfl, Or.inl rfl, Or.inl rfl, Or.inl rfl, Or.inl rfl, Or.inl rfl, Or.inr ⟨rfl, rfl⟩, Or.inl rfl, Or.inl rfl, Or.inl rfl, Or.inl rfl, Or.inl rfl, Or.inl rfl, trivial⟩) (by rfl) (by exact trivial) (by rfl) (Nat.le_of_ble_eq_true rfl) ?_
  refine z_weq (w' := [zPl _ _, zO _ [zr _ _, zr _ _, zr _ _, zr _ _, zr _ _, zi _, zi _, zr _ _, zr _ _], zH, zH, zH, zH, zH, zH, zH, zH, zH, zH, zH, zH, zH, zH, zH, zH, zH, zH, zH, zH, zO _ [zi _, zi _, zr _ _], zAi 0 24 _, zO _ [zi _, zi _, zr _ _], zAi 0 24 _]) rfl ?_
  refine z_iload_n F dX1_glued_15 rfl ?_
  refine z_callS F (c_xSlot (nI j)) 1 rfl (lw_S q346 q347 q109 q348) (by decide +kernel) ⟨Nat.le_of_ble_eq_true rfl, Nat.le_of_ble_eq_true rfl⟩ ⟨by omega, by omega⟩ [0] 26 ⟨rfl, rfl, rfl, ⟨Or.inl rfl, trivial⟩⟩ (fun h => nomatch h) (Nat.le_of_ble_eq_true rfl) ⟨⟨Or.inr (by first | exact ⟨rfl, pR_B _ (by decide)⟩ | exact ⟨rfl, uR_B (by decide) (by decide)⟩ | exact ⟨rfl, gR_B (by decide) (by decide) (by decide)⟩), Or.inr rfl, Or.inr trivial, Or.inr trivial, Or.inr trivial, Or.inr trivial, Or.inr trivial, Or.inr trivial, Or.inr trivial, Or.inr trivial, Or.inr trivial, Or.inr trivial, Or.inr trivial, Or.inr trivial, Or.inr trivial, Or.inr trivial, Or.inr trivial, Or.inr trivial, Or.inr trivial, Or.inr trivial, Or.inr trivial, Or.inr trivial, Or.inr rfl, Or.inr trivial, Or.inr rfl, Or.inr trivial, trivial⟩, rfl, rfl, rfl, Nat.le_of_ble_eq_true rfl⟩ rfl rfl dX1_glued_16 (fun r_16 w_16 hp => ?_) (fun _ _ h => h.elim)
  obtain ⟨rfl, rfl⟩ := hp
  refine z_weq (w' := [zPl _ _, zO _ [zr _ _, zr _ _, zr _ _, zr _ _, zr _ _, zi _, zi _, zr _ _, zr _ _], zH, zH, zH, zH, zH, zH, zH, zH, zH, zH, zH, zH, zH, zH, zH, zH, zH, zH, zH, zH, zO _ [zi _, zi _, zr _ _], zAi 0 24 _, zO _ [zi _, zi _, zr _ _], zAi 0 24 _]) rfl ?_
  refine z_seq (S' := zi _ :: _) rfl ?_
  refine z_if_eqB F (tgt := 59) dX1_glued_19 (by decide) (fun c_19 => ?_) (fun c_19 => ?_)
  · rw [slB_n hj] at c_19; cases c_19
  · refine z_iload_n F dX1_glued_22 rfl ?_
    refine z_iconst F (nI 0) dX1_glued_23 rfl ?_
    refine z_iconst F (nI 1) dX1_glued_24 rfl ?_
    refine z_callS F (c_in (nI kd) (nI 0) (nI 1)) 3 rfl (lw_S q349 q350 q109 q351) (by decide +kernel) ⟨Nat.le_of_ble_eq_true rfl, Nat.le_of_ble_eq_true rfl⟩ ⟨by omega, by omega⟩ [0] 26 ⟨rfl, rfl, rfl, ⟨Or.inl rfl, trivial⟩⟩ (fun h => nomatch h) (Nat.le_of_ble_eq_true rfl) ⟨⟨Or.inr (by first | exact ⟨rfl, pR_B _ (by decide)⟩ | exact ⟨rfl, uR_B (by decide) (by decide)⟩ | exact ⟨rfl, gR_B (by decide) (by decide) (by decide)⟩), Or.inr rfl, Or.inr trivial, Or.inr trivial, Or.inr trivial, Or.inr trivial, Or.inr trivial, Or.inr trivial, Or.inr trivial, Or.inr trivial, Or.inr trivial, Or.inr trivial, Or.inr trivial, Or.inr trivial, Or.inr trivial, Or.inr trivial, Or.inr trivial, Or.inr trivial, Or.inr trivial, Or.inr trivial, Or.inr trivial, Or.inr trivial, Or.inr rfl, Or.inr trivial, Or.inr rfl, Or.inr trivial, trivial⟩, rfl, rfl, rfl, Nat.le_of_ble_eq_true rfl⟩ rfl rfl dX1_glued_25 (fun r_25 w_25 hp => ?_) (fun _ _ h => h.elim)
    obtain ⟨rfl, rfl⟩ := hp
    refine z_weq (w' := [zPl _ _, zO _ [zr _ _, zr _ _, zr _ _, zr _ _, zr _ _, zi _, zi _, zr _ _, zr _ _], zH, zH, zH, zH, zH, zH, zH, zH, zH, zH, zH, zH, zH, zH, zH, zH, zH, zH, zH, zH, zO _ [zi _, zi _, zr _ _], zAi 0 24 _, zO _ [zi _, zi _, zr _ _], zAi 0 24 _]) rfl ?_
    refine z_seq (S' := zi _ :: _) rfl ?_
    refine z_if_eqB F (tgt := 59) dX1_glued_28 (by decide) (fun c_28 => ?_) (fun c_28 => ?_)
    · rw [inB_nn (by omega) (by omega) (by omega)] at c_28; cases c_28
    · refine z_aload F dX1_glued_31 rfl ?_
      refine z_getN F zC5 (f := 0) rfl (Nat.le_of_ble_eq_true rfl) q245 rfl dX1_glued_33 ?_
      refine z_aload F dX1_glued_36 rfl ?_
      refine z_getN F zC5 (f := 0) rfl (Nat.le_of_ble_eq_true rfl) q245 rfl dX1_glued_38 ?_
      refine z_imulN F dX1_glued_41 ?_
      refine z_aload F dX1_glued_42 rfl ?_
      refine z_getN F zC5 (f := 1) rfl (Nat.le_of_ble_eq_true rfl) q248 rfl dX1_glued_44 ?_
      refine z_aload F dX1_glued_47 rfl ?_
      refine z_getN F zC5 (f := 1) rfl (Nat.le_of_ble_eq_true rfl) q248 rfl dX1_glued_49 ?_
      refine z_iaddN F dX1_glued_52 ?_
      refine z_callS F (c_can (nI (nx * ny)) (nI (d1 + d2))) 2 rfl (lw_S q352 q353 q116 q354) (by decide +kernel) ⟨Nat.le_of_ble_eq_true rfl, Nat.le_of_ble_eq_true rfl⟩ ⟨by omega, by omega⟩ [0] 26 ⟨rfl, rfl, rfl, ⟨Or.inl rfl, trivial⟩⟩ (fun h => nomatch h) (Nat.le_of_ble_eq_true rfl) ⟨⟨Or.inr (by first | exact ⟨rfl, pR_B _ (by decide)⟩ | exact ⟨rfl, uR_B (by decide) (by decide)⟩ | exact ⟨rfl, gR_B (by decide) (by decide) (by decide)⟩), Or.inr rfl, Or.inr trivial, Or.inr trivial, Or.inr trivial, Or.inr trivial, Or.inr trivial, Or.inr trivial, Or.inr trivial, Or.inr trivial, Or.inr trivial, Or.inr trivial, Or.inr trivial, Or.inr trivial, Or.inr trivial, Or.inr trivial, Or.inr trivial, Or.inr trivial, Or.inr trivial, Or.inr trivial, Or.inr trivial, Or.inr trivial, Or.inr rfl, Or.inr trivial, Or.inr rfl, Or.inr trivial, trivial⟩, rfl, rfl, rfl, Nat.le_of_ble_eq_true rfl⟩ rfl rfl dX1_glued_53 (fun r_53 w_53 hp => ?_) (fun _ _ h => h.elim)
      obtain ⟨rfl, rfl⟩ := hp
      refine z_weq (w' := [zPl _ _, zO _ [zr _ _, zr _ _, zr _ _, zr _ _, zr _ _, zi _, zi _, zr _ _, zr _ _], zH, zH, zH, zH, zH, zH, zH, zH, zH, zH, zH, zH, zH, zH, zH, zH, zH, zH, zH, zH, zO _ [zi _, zi _, zr _ _], zAi 0 24 _, zO _ [zi _, zi _, zr _ _], zAi 0 24 _]) rfl ?_
      refine z_seq (S' := zi _ :: _) rfl ?_
      refine z_if_neB F (tgt := 61) dX1_glued_56 (by decide) (fun c_56 => ?_) (fun c_56 => ?_)
      · refine z_new F 26 [zi 0, zi 0, zn] zC5 q151 q232 q116 (fun _ j hj => by match j, hj with | 0, _ => rfl | 1, _ => rfl | 2, _ => rfl) rfl (Nat.le_of_ble_eq_true rfl) (Nat.le_of_ble_eq_true rfl) ⟨(by first | exact pR_N _ (Nat.le_of_ble_eq_true rfl) | exact uR_N (Nat.le_of_ble_eq_true rfl) (Nat.le_of_ble_eq_true rfl) | exact gR_N (Nat.le_of_ble_eq_true rfl) (Nat.le_of_ble_eq_true rfl) (Nat.le_of_ble_eq_true rfl)), rfl, trivial, trivial, trivial, trivial, trivial, trivial, trivial, trivial, trivial, trivial, trivial, trivial, trivial, trivial, trivial, trivial, trivial, trivial, trivial, trivial, rfl, trivial, rfl, trivial, trivial⟩ rfl rfl ⟨by omega, by omega⟩ dX1_glued_61 ?_
        refine z_weq (w' := [_, _, _, _, _, _, _, _, _, _, _, _, _, _, _, _, _, _, _, _, _, _, _, _, _, _, _]) rfl ?_
        refine z_dup F dX1_glued_64 rfl ?_
        refine z_aload F dX1_glued_65 rfl ?_
        refine z_getN F zC5 (f := 0) rfl (Nat.le_of_ble_eq_true rfl) q245 rfl dX1_glued_67 ?_
        refine z_aload F dX1_glued_70 rfl ?_
        refine z_getN F zC5 (f := 0) rfl (Nat.le_of_ble_eq_true rfl) q245 rfl dX1_glued_72 ?_
        refine z_imulN F dX1_glued_75 ?_
        refine z_aload F dX1_glued_76 rfl ?_
        refine z_getN F zC5 (f := 1) rfl (Nat.le_of_ble_eq_true rfl) q248 rfl dX1_glued_78 ?_
        refine z_aload F dX1_glued_81 rfl ?_
        refine z_getN F zC5 (f := 1) rfl (Nat.le_of_ble_eq_true rfl) q248 rfl dX1_glued_83 ?_
        refine z_iaddN F dX1_glued_86 ?_
        refine z_callI F (c_netInit (nI (nx * ny)) (nI (d1 + d2))) 2 rfl (lw_meth q235) q116 q356 q234 rfl (by decide +kernel) ⟨Nat.le_of_ble_eq_true rfl, Nat.le_of_ble_eq_true rfl⟩ ⟨by omega, by omega⟩ [0, 26] 27 ⟨rfl, rfl, rfl, ⟨Or.inl rfl, Or.inr rfl, trivial⟩⟩ (fun h => nomatch h) (Nat.le_of_ble_eq_true rfl) ⟨⟨Or.inr (by first | exact ⟨rfl, pR_B _ (by decide)⟩ | exact ⟨rfl, uR_B (by decide) (by decide)⟩ | exact ⟨rfl, gR_B (by decide) (by decide) (by decide)⟩), Or.inr rfl, Or.inr trivial, Or.inr trivial, Or.inr trivial, Or.inr trivial, Or.inr trivial, Or.inr trivial, Or.inr trivial, Or.inr trivial, Or.inr trivial, Or.inr trivial, Or.inr trivial, Or.inr trivial, Or.inr trivial, Or.inr trivial, Or.inr trivial, Or.inr trivial, Or.inr trivial, Or.inr trivial, Or.inr trivial, Or.inr trivial, Or.inr rfl, Or.inr trivial, Or.inr rfl, Or.inr trivial, Or.inl rfl, trivial⟩, rfl, rfl, rfl, Nat.le_of_ble_eq_true rfl⟩ rfl rfl dX1_glued_87 (fun r_87 w_87 hp => ?_) (fun _ _ h => h.elim)
        obtain ⟨rfl, rfl⟩ := hp
        refine z_weq (w' := [zPl _ _, zO _ [zr _ _, zr _ _, zr _ _, zr _ _, zr _ _, zi _, zi _, zr _ _, zr _ _], zH, zH, zH, zH, zH, zH, zH, zH, zH, zH, zH, zH, zH, zH, zH, zH, zH, zH, zH, zH, zO _ [zi _, zi _, zr _ _], zAi 0 24 _, zO _ [zi _, zi _, zr _ _], zAi 0 24 _, zO _ [zi _, zi _, zr _ _], zAi 0 24 _]) rfl ?_
        refine z_seq (S' := [_]) rfl ?_
        refine z_astore F dX1_glued_90 (Nat.le_of_ble_eq_true rfl) ?_
        refine z_leq (L' := [_, _, _, _, _, _, _, _, _, _, _, _, _]) rfl ?_
        refine z_iconst F (nI 0) dX1_glued_92 rfl ?_
        refine z_istore F dX1_glued_93 (Nat.le_of_ble_eq_true rfl) ?_
        refine z_leq (L' := [_, _, _, _, _, _, _, _, _, _, _, _, _]) rfl ?_
        exact rows _ _ (by omega) (by omega) (fin _ _ (by omega) (by omega)) (nx * ny + 1) 0 (by omega) (by omega)
      · rw [inB_nn (Nat.mul_pos p1 p2) hN (by omega), inB_nn (by omega) hd (by omega)] at c_56; cases c_56
theorem c_pgluedA_no (P : zPt) (t : Nat) (fp0 : Int32) (x y  nx ny d1 d2 : Nat) (fp fq : Nat → Int32) (hx : x < 8) (hy : y < 8) (hxy : ¬ y = x) (h1 : nok nx d1 fp) (h2 : nok ny d2 fq) (hPx : P x = some (nI nx, nI d1, fp)) (hPy : P y = some (nI ny, nI d2, fq)) (s k : Int32) (h : glB s k nx ny d1 d2 = false) : zCtr yX1_glued cX1_glued 13 (some .boolean) 8 10 80 [zr 1 0, zi s, zi k, zi (nI x), zi (nI y)] (xH P t fp0) (fun r w => r = some (zi (bI false)) ∧ w = xH P t fp0) zNx := by
  refine z_start (by decide) [some (zr 1 0), some (zi s), some (zi k), some (zi (nI x)), some (zi (nI y)), none, none, none, none, none, none, none, none] rfl (fun _ => Nat.le_of_ble_eq_true rfl) (fun _ => rfl) (fun X F E hno hin => ?_)
  refine z_aload_n F dX1_glued_0 rfl ?_
  refine z_iload_n F dX1_glued_1 rfl ?_
  refine z_callV F (c_netAt_ok P t fp0 x hx hPx) 1 rfl (lw_V q429 q431 qs0 q109 q432) (by decide +kernel) ⟨Nat.le_of_ble_eq_true rfl, Nat.le_of_ble_eq_true rfl⟩ ⟨by omega, by omega⟩ [0, 1, 2, 3, 4, 5, 6, 7, 8, 9, 10, 11, 12, 13, 14, 15, 16, 17, 18, 19, 20, 21] 22 ⟨rfl, rfl, rfl, ⟨Or.inr (congrArg some (zrnP rfl).symm), Or.inr rfl, Or.inl rfl, Or.inl rfl, Or.inl rfl, Or.inl rfl, Or.inl rfl, Or.inl rfl, Or.inl rfl, Or.inl rfl, Or.inl rfl, Or.inl rfl, Or.inl rfl, Or.inl rfl, Or.inl rfl, Or.inl rfl, Or.inl rfl, Or.inl rfl, Or.inl rfl, Or.inl rfl, Or.inl rfl, Or.inl rfl, trivial⟩⟩ (fun _ => rfl) (Nat.le_of_ble_eq_true rfl) ⟨⟨Or.inl rfl, Or.inl rfl, Or.inr trivial, Or.inr trivial, Or.inr trivial, Or.inr trivial, Or.inr trivial, Or.inr trivial, Or.inr trivial, Or.inr trivial, Or.inr trivial, Or.inr trivial, Or.inr trivial, Or.inr trivial, Or.inr trivial, Or.inr trivial, Or.inr trivial, Or.inr trivial, Or.inr trivial, Or.inr trivial, Or.inr trivial, Or.inr trivial, trivial⟩, rfl, rfl, rfl, Nat.le_of_ble_eq_true rfl⟩ rfl zC1 rfl rfl dX1_glued_2 (fun r_2 w_2 hp => ?_) (fun _ _ h => h.elim)
  obtain ⟨rfl, rfl⟩ := hp
  refine z_weq (w' := zPl (pR _) _ :: _) (congrArg (fun z => z :: _) (zrnP rfl)) ?_
  refine z_weq (w' := [zPl _ _, zO _ [zr _ _, zr _ _, zr _ _, zr _ _, zr _ _, zi _, zi _, zr _ _, zr _ _], zH, zH, zH, zH, zH, zH, zH, zH, zH, zH, zH, zH, zH, zH, zH, zH, zH, zH, zH, zH]) rfl ?_
  refine z_seq (S' := zr _ _ :: _) rfl ?_
  refine z_astore F dX1_glued_5 (Nat.le_of_ble_eq_true rfl) ?_
  refine z_leq (L' := [_, _, _, _, _, _, _, _, _, _, _, _, _]) rfl ?_
  refine z_foc F x hx hPx (N := 22) (M := 23) (L' := [_, _, _, _, _, some (zr 22 0), _, _, _, _, _, _, _]) (S' := []) rfl rfl (Nat.le_of_ble_eq_true rfl) ⟨rfl, trivial, trivial, trivial, trivial, trivial, trivial, trivial, trivial, trivial, trivial, trivial, trivial, trivial, trivial, trivial, trivial, trivial, trivial, trivial, trivial, trivial⟩ ⟨Or.inl rfl, Or.inl rfl, Or.inl rfl, Or.inl rfl, Or.inl rfl, Or.inr ⟨rfl, rfl⟩, Or.inl rfl, Or.inl rfl, Or.inl rfl, Or.inl rfl, Or.inl rfl, Or.inl rfl, Or.inl rfl, trivial⟩ rfl trivial rfl ?_
  refine z_weq (w' := [zPl _ _, zO _ [zr _ _, zr _ _, zr _ _, zr _ _, zr _ _, zi _, zi _, zr _ _, zr _ _], zH, zH, zH, zH, zH, zH, zH, zH, zH, zH, zH, zH, zH, zH, zH, zH, zH, zH, zH, zH, zO _ [zi _, zi _, zr _ _], zAi 0 24 _]) rfl ?_
  refine z_aload_n F dX1_glued_7 rfl ?_
  refine z_iload F dX1_glued_8 rfl ?_
  refine z_callV F (c_netAt2 P t fp0 x y 0 (2 * y + 1) hy (show zput (pR P) x (zr 22 0) y = _ by unfold zput; rw [if_neg hxy]; exact pR_some hPy)) 1 rfl (lw_V q429 q431 qs0 q109 q432) (by decide +kernel) ⟨Nat.le_of_ble_eq_true rfl, Nat.le_of_ble_eq_true rfl⟩ ⟨by omega, by omega⟩ [0, 1, 2, 3, 4, 5, 6, 7, 8, 9, 10, 11, 12, 13, 14, 15, 16, 17, 18, 19, 20, 21, 22, 23] 24 ⟨rfl, rfl, rfl, ⟨Or.inr (congrArg some (zrnU rfl rfl).symm), Or.inr rfl, Or.inl rfl, Or.inl rfl, Or.inl rfl, Or.inl rfl, Or.inl rfl, Or.inl rfl, Or.inl rfl, Or.inl rfl, Or.inl rfl, Or.inl rfl, Or.inl rfl, Or.inl rfl, Or.inl rfl, Or.inl rfl, Or.inl rfl, Or.inl rfl, Or.inl rfl, Or.inl rfl, Or.inl rfl, Or.inl rfl, Or.inl rfl, Or.inl rfl, trivial⟩⟩ (fun _ => rfl) (Nat.le_of_ble_eq_true rfl) ⟨⟨Or.inl rfl, Or.inl rfl, Or.inr trivial, Or.inr trivial, Or.inr trivial, Or.inr trivial, Or.inr trivial, Or.inr trivial, Or.inr trivial, Or.inr trivial, Or.inr trivial, Or.inr trivial, Or.inr trivial, Or.inr trivial, Or.inr trivial, Or.inr trivial, Or.inr trivial, Or.inr trivial, Or.inr trivial, Or.inr trivial, Or.inr trivial, Or.inr trivial, Or.inr rfl, Or.inr trivial, trivial⟩, rfl, rfl, rfl, Nat.le_of_ble_eq_true rfl⟩ rfl zC1 rfl rfl dX1_glued_10 (fun r_10 w_10 hp => ?_) (fun _ _ h => h.elim)
  obtain ⟨rfl, rfl⟩ := hp
  refine z_weq (w' := zPl (zput (pR _) _ _) _ :: _) (congrArg (fun z => z :: _) (zrnU rfl rfl)) ?_
  refine z_weq (w' := [zPl _ _, zO _ [zr _ _, zr _ _, zr _ _, zr _ _, zr _ _, zi _, zi _, zr _ _, zr _ _], zH, zH, zH, zH, zH, zH, zH, zH, zH, zH, zH, zH, zH, zH, zH, zH, zH, zH, zH, zH, zO _ [zi _, zi _, zr _ _], zAi 0 24 _]) rfl ?_
  refine z_seq (S' := zr _ _ :: _) rfl ?_
  refine z_astore F dX1_glued_13 (Nat.le_of_ble_eq_true rfl) ?_
  refine z_leq (L' := [_, _, _, _, _, _, _, _, _, _, _, _, _]) rfl ?_
  refine z_foc2 F y hy (show zput P x none y = _ by unfold zput; rw [if_neg hxy]; exact hPy) (show zput (pR P) x (zr 22 0) y = _ by unfold zput; rw [if_neg hxy]; exact pR_some hPy) (fun N hN i => uR_N (by omega) (by omega) i) (N := 24) (M := 25) (L' := [_, _, _, _, _, _, some (zr 24 0), _, _, _, _, _, _]) (S' := []) rfl rfl (Nat.le_of_ble_eq_true rfl) (by exact ⟨rfl, trivial, trivial, trivial, trivial, trivial, trivial, trivial, trivial, trivial, trivial, trivial, trivial, trivial, trivial, trivial, trivial, trivial, trivial, trivial, trivial, rfl, trivial, trivial⟩) (by exact ⟨Or.inl rfl, Or.inl rfl, Or.inl rfl, Or.inl rfl, Or.inl rfl, Or.inl rfl, Or.inr ⟨rfl, rfl⟩, Or.inl rfl, Or.inl rfl, Or.inl rfl, Or.inl rfl, Or.inl rfl, Or.inl rfl, trivial⟩) (by rfl) (by exact trivial) (by rfl) (Nat.le_of_ble_eq_true rfl) ?_
  refine z_weq (w' := [zPl _ _, zO _ [zr _ _, zr _ _, zr _ _, zr _ _, zr _ _, zi _, zi _, zr _ _, zr _ _], zH, zH, zH, zH, zH, zH, zH, zH, zH, zH, zH, zH, zH, zH, zH, zH, zH, zH, zH, zH, zO _ [zi _, zi _, zr _ _], zAi 0 24 _, zO _ [zi _, zi _, zr _ _], zAi 0 24 _]) rfl ?_
  refine z_iload_n F dX1_glued_15 rfl ?_
  refine z_callS F (c_xSlot s) 1 rfl (lw_S q346 q347 q109 q348) (by decide +kernel) ⟨Nat.le_of_ble_eq_true rfl, Nat.le_of_ble_eq_true rfl⟩ ⟨by omega, by omega⟩ [0] 26 ⟨rfl, rfl, rfl, ⟨Or.inl rfl, trivial⟩⟩ (fun h => nomatch h) (Nat.le_of_ble_eq_true rfl) ⟨⟨Or.inr (by first | exact ⟨rfl, pR_B _ (by decide)⟩ | exact ⟨rfl, uR_B (by decide) (by decide)⟩ | exact ⟨rfl, gR_B (by decide) (by decide) (by decide)⟩), Or.inr rfl, Or.inr trivial, Or.inr trivial, Or.inr trivial, Or.inr trivial, Or.inr trivial, Or.inr trivial, Or.inr trivial, Or.inr trivial, Or.inr trivial, Or.inr trivial, Or.inr trivial, Or.inr trivial, Or.inr trivial, Or.inr trivial, Or.inr trivial, Or.inr trivial, Or.inr trivial, Or.inr trivial, Or.inr trivial, Or.inr trivial, Or.inr rfl, Or.inr trivial, Or.inr rfl, Or.inr trivial, trivial⟩, rfl, rfl, rfl, Nat.le_of_ble_eq_true rfl⟩ rfl rfl dX1_glued_16 (fun r_16 w_16 hp => ?_) (fun _ _ h => h.elim)
  obtain ⟨rfl, rfl⟩ := hp
  refine z_weq (w' := [zPl _ _, zO _ [zr _ _, zr _ _, zr _ _, zr _ _, zr _ _, zi _, zi _, zr _ _, zr _ _], zH, zH, zH, zH, zH, zH, zH, zH, zH, zH, zH, zH, zH, zH, zH, zH, zH, zH, zH, zH, zO _ [zi _, zi _, zr _ _], zAi 0 24 _, zO _ [zi _, zi _, zr _ _], zAi 0 24 _]) rfl ?_
  refine z_seq (S' := zi _ :: _) rfl ?_
  refine z_if_eqB F (tgt := 59) dX1_glued_19 (by decide) (fun c_19 => ?_) (fun c_19 => ?_)
  · refine z_unfocusH F rfl y 24 25 hy zput_self rfl rfl (Nat.le_of_ble_eq_true rfl) (Nat.le_of_ble_eq_true rfl) [zO _ [zr _ _, zr _ _, zr _ _, zr _ _, zr _ _, zi _, zi _, zr _ _, zr _ _], zH, zH, zH, zH, zH, zH, zH, zH, zH, zH, zH, zH, zH, zH, zH, zH, zH, zH, zH, zH, zO _ [zi _, zi _, zr _ _], zAi 0 24 _, zH, zH] rfl ⟨Nat.le_of_ble_eq_true rfl, Nat.le_of_ble_eq_true rfl⟩ ⟨rfl, trivial, trivial, trivial, trivial, trivial, trivial, trivial, trivial, trivial, trivial, trivial, trivial, trivial, trivial, trivial, trivial, trivial, trivial, trivial, trivial, rfl, trivial, trivial, trivial, trivial⟩ (gOV (by decide)) rfl rfl ?_
    refine z_weq (w' := zPl _ _ :: _) (congrArg (fun z => z :: _) (gPl hxy hPy)) ?_
    refine z_iconstB F false dX1_glued_59 rfl ?_
    refine z_loc [some _, some _, some _, some _, some _, none, none, none, none, none, none, none, none] ⟨rfl, rfl, rfl, rfl, rfl, trivial⟩ ?_
    refine z_unfocus F rfl x 22 23 22 hx zput_self rfl rfl (Nat.le_of_ble_eq_true rfl) (Nat.le_of_ble_eq_true rfl) (Nat.le_of_ble_eq_true rfl) (Nat.le_of_ble_eq_true rfl) [zO _ [zr _ _, zr _ _, zr _ _, zr _ _, zr _ _, zi _, zi _, zr _ _, zr _ _], zH, zH, zH, zH, zH, zH, zH, zH, zH, zH, zH, zH, zH, zH, zH, zH, zH, zH, zH, zH] rfl ⟨rfl, trivial, trivial, trivial, trivial, trivial, trivial, trivial, trivial, trivial, trivial, trivial, trivial, trivial, trivial, trivial, trivial, trivial, trivial, trivial, trivial, trivial⟩ uOK rfl rfl ?_
    refine z_weq (w' := zPl (pR (zput P x (some _))) (zput P x (some _)) :: _) (congrArg (fun z => z :: _) uPl2) ?_
    exact z_zret F E rfl rfl dX1_glued_60 (by omega) (by omega) (⟨rfl, by rw [zput_some hPx]; rfl⟩)
  · refine z_iload_n F dX1_glued_22 rfl ?_
    refine z_iconst F (nI 0) dX1_glued_23 rfl ?_
    refine z_iconst F (nI 1) dX1_glued_24 rfl ?_
    refine z_callS F (c_in k (nI 0) (nI 1)) 3 rfl (lw_S q349 q350 q109 q351) (by decide +kernel) ⟨Nat.le_of_ble_eq_true rfl, Nat.le_of_ble_eq_true rfl⟩ ⟨by omega, by omega⟩ [0] 26 ⟨rfl, rfl, rfl, ⟨Or.inl rfl, trivial⟩⟩ (fun h => nomatch h) (Nat.le_of_ble_eq_true rfl) ⟨⟨Or.inr (by first | exact ⟨rfl, pR_B _ (by decide)⟩ | exact ⟨rfl, uR_B (by decide) (by decide)⟩ | exact ⟨rfl, gR_B (by decide) (by decide) (by decide)⟩), Or.inr rfl, Or.inr trivial, Or.inr trivial, Or.inr trivial, Or.inr trivial, Or.inr trivial, Or.inr trivial, Or.inr trivial, Or.inr trivial, Or.inr trivial, Or.inr trivial, Or.inr trivial, Or.inr trivial, Or.inr trivial, Or.inr trivial, Or.inr trivial, Or.inr trivial, Or.inr trivial, Or.inr trivial, Or.inr trivial, Or.inr trivial, Or.inr rfl, Or.inr trivial, Or.inr rfl, Or.inr trivial, trivial⟩, rfl, rfl, rfl, Nat.le_of_ble_eq_true rfl⟩ rfl rfl dX1_glued_25 (fun r_25 w_25 hp => ?_) (fun _ _ h => h.elim)
    obtain ⟨rfl, rfl⟩ := hp
    refine z_weq (w' := [zPl _ _, zO _ [zr _ _, zr _ _, zr _ _, zr _ _, zr _ _, zi _, zi _, zr _ _, zr _ _], zH, zH, zH, zH, zH, zH, zH, zH, zH, zH, zH, zH, zH, zH, zH, zH, zH, zH, zH, zH, zO _ [zi _, zi _, zr _ _], zAi 0 24 _, zO _ [zi _, zi _, zr _ _], zAi 0 24 _]) rfl ?_
    refine z_seq (S' := zi _ :: _) rfl ?_
    refine z_if_eqB F (tgt := 59) dX1_glued_28 (by decide) (fun c_28 => ?_) (fun c_28 => ?_)
    · refine z_unfocusH F rfl y 24 25 hy zput_self rfl rfl (Nat.le_of_ble_eq_true rfl) (Nat.le_of_ble_eq_true rfl) [zO _ [zr _ _, zr _ _, zr _ _, zr _ _, zr _ _, zi _, zi _, zr _ _, zr _ _], zH, zH, zH, zH, zH, zH, zH, zH, zH, zH, zH, zH, zH, zH, zH, zH, zH, zH, zH, zH, zO _ [zi _, zi _, zr _ _], zAi 0 24 _, zH, zH] rfl ⟨Nat.le_of_ble_eq_true rfl, Nat.le_of_ble_eq_true rfl⟩ ⟨rfl, trivial, trivial, trivial, trivial, trivial, trivial, trivial, trivial, trivial, trivial, trivial, trivial, trivial, trivial, trivial, trivial, trivial, trivial, trivial, trivial, rfl, trivial, trivial, trivial, trivial⟩ (gOV (by decide)) rfl rfl ?_
      refine z_weq (w' := zPl _ _ :: _) (congrArg (fun z => z :: _) (gPl hxy hPy)) ?_
      refine z_iconstB F false dX1_glued_59 rfl ?_
      refine z_loc [some _, some _, some _, some _, some _, none, none, none, none, none, none, none, none] ⟨rfl, rfl, rfl, rfl, rfl, trivial⟩ ?_
      refine z_unfocus F rfl x 22 23 22 hx zput_self rfl rfl (Nat.le_of_ble_eq_true rfl) (Nat.le_of_ble_eq_true rfl) (Nat.le_of_ble_eq_true rfl) (Nat.le_of_ble_eq_true rfl) [zO _ [zr _ _, zr _ _, zr _ _, zr _ _, zr _ _, zi _, zi _, zr _ _, zr _ _], zH, zH, zH, zH, zH, zH, zH, zH, zH, zH, zH, zH, zH, zH, zH, zH, zH, zH, zH, zH] rfl ⟨rfl, trivial, trivial, trivial, trivial, trivial, trivial, trivial, trivial, trivial, trivial, trivial, trivial, trivial, trivial, trivial, trivial, trivial, trivial, trivial, trivial, trivial⟩ uOK rfl rfl ?_
      refine z_weq (w' := zPl (pR (zput P x (some _))) (zput P x (some _)) :: _) (congrArg (fun z => z :: _) uPl2) ?_
      exact z_zret F E rfl rfl dX1_glued_60 (by omega) (by omega) (⟨rfl, by rw [zput_some hPx]; rfl⟩)
    · refine z_aload F dX1_glued_31 rfl ?_
      refine z_getN F zC5 (f := 0) rfl (Nat.le_of_ble_eq_true rfl) q245 rfl dX1_glued_33 ?_
      refine z_aload F dX1_glued_36 rfl ?_
      refine z_getN F zC5 (f := 0) rfl (Nat.le_of_ble_eq_true rfl) q245 rfl dX1_glued_38 ?_
      refine z_imulN F dX1_glued_41 ?_
      refine z_aload F dX1_glued_42 rfl ?_
      refine z_getN F zC5 (f := 1) rfl (Nat.le_of_ble_eq_true rfl) q248 rfl dX1_glued_44 ?_
      refine z_aload F dX1_glued_47 rfl ?_
      refine z_getN F zC5 (f := 1) rfl (Nat.le_of_ble_eq_true rfl) q248 rfl dX1_glued_49 ?_
      refine z_iaddN F dX1_glued_52 ?_
      refine z_callS F (c_can (nI (nx * ny)) (nI (d1 + d2))) 2 rfl (lw_S q352 q353 q116 q354) (by decide +kernel) ⟨Nat.le_of_ble_eq_true rfl, Nat.le_of_ble_eq_true rfl⟩ ⟨by omega, by omega⟩ [0] 26 ⟨rfl, rfl, rfl, ⟨Or.inl rfl, trivial⟩⟩ (fun h => nomatch h) (Nat.le_of_ble_eq_true rfl) ⟨⟨Or.inr (by first | exact ⟨rfl, pR_B _ (by decide)⟩ | exact ⟨rfl, uR_B (by decide) (by decide)⟩ | exact ⟨rfl, gR_B (by decide) (by decide) (by decide)⟩), Or.inr rfl, Or.inr trivial, Or.inr trivial, Or.inr trivial, Or.inr trivial, Or.inr trivial, Or.inr trivial, Or.inr trivial, Or.inr trivial, Or.inr trivial, Or.inr trivial, Or.inr trivial, Or.inr trivial, Or.inr trivial, Or.inr trivial, Or.inr trivial, Or.inr trivial, Or.inr trivial, Or.inr trivial, Or.inr trivial, Or.inr trivial, Or.inr rfl, Or.inr trivial, Or.inr rfl, Or.inr trivial, trivial⟩, rfl, rfl, rfl, Nat.le_of_ble_eq_true rfl⟩ rfl rfl dX1_glued_53 (fun r_53 w_53 hp => ?_) (fun _ _ h => h.elim)
      obtain ⟨rfl, rfl⟩ := hp
      refine z_weq (w' := [zPl _ _, zO _ [zr _ _, zr _ _, zr _ _, zr _ _, zr _ _, zi _, zi _, zr _ _, zr _ _], zH, zH, zH, zH, zH, zH, zH, zH, zH, zH, zH, zH, zH, zH, zH, zH, zH, zH, zH, zH, zO _ [zi _, zi _, zr _ _], zAi 0 24 _, zO _ [zi _, zi _, zr _ _], zAi 0 24 _]) rfl ?_
      refine z_seq (S' := zi _ :: _) rfl ?_
      refine z_if_neB F (tgt := 61) dX1_glued_56 (by decide) (fun c_56 => ?_) (fun c_56 => ?_)
      · unfold glB at h; rw [c_19, c_28, c_56] at h; cases h
      · refine z_unfocusH F rfl y 24 25 hy zput_self rfl rfl (Nat.le_of_ble_eq_true rfl) (Nat.le_of_ble_eq_true rfl) [zO _ [zr _ _, zr _ _, zr _ _, zr _ _, zr _ _, zi _, zi _, zr _ _, zr _ _], zH, zH, zH, zH, zH, zH, zH, zH, zH, zH, zH, zH, zH, zH, zH, zH, zH, zH, zH, zH, zO _ [zi _, zi _, zr _ _], zAi 0 24 _, zH, zH] rfl ⟨Nat.le_of_ble_eq_true rfl, Nat.le_of_ble_eq_true rfl⟩ ⟨rfl, trivial, trivial, trivial, trivial, trivial, trivial, trivial, trivial, trivial, trivial, trivial, trivial, trivial, trivial, trivial, trivial, trivial, trivial, trivial, trivial, rfl, trivial, trivial, trivial, trivial⟩ (gOV (by decide)) rfl rfl ?_
        refine z_weq (w' := zPl _ _ :: _) (congrArg (fun z => z :: _) (gPl hxy hPy)) ?_
        refine z_iconstB F false dX1_glued_59 rfl ?_
        refine z_loc [some _, some _, some _, some _, some _, none, none, none, none, none, none, none, none] ⟨rfl, rfl, rfl, rfl, rfl, trivial⟩ ?_
        refine z_unfocus F rfl x 22 23 22 hx zput_self rfl rfl (Nat.le_of_ble_eq_true rfl) (Nat.le_of_ble_eq_true rfl) (Nat.le_of_ble_eq_true rfl) (Nat.le_of_ble_eq_true rfl) [zO _ [zr _ _, zr _ _, zr _ _, zr _ _, zr _ _, zi _, zi _, zr _ _, zr _ _], zH, zH, zH, zH, zH, zH, zH, zH, zH, zH, zH, zH, zH, zH, zH, zH, zH, zH, zH, zH] rfl ⟨rfl, trivial, trivial, trivial, trivial, trivial, trivial, trivial, trivial, trivial, trivial, trivial, trivial, trivial, trivial, trivial, trivial, trivial, trivial, trivial, trivial, trivial⟩ uOK rfl rfl ?_
        refine z_weq (w' := zPl (pR (zput P x (some _))) (zput P x (some _)) :: _) (congrArg (fun z => z :: _) uPl2) ?_
        exact z_zret F E rfl rfl dX1_glued_60 (by omega) (by omega) (⟨rfl, by rw [zput_some hPx]; rfl⟩)
theorem c_pgluedB (P : zPt) (t : Nat) (fp0 : Int32) (j x kd nx d1 : Nat) (fp : Nat → Int32) (hx : x < 8) (h1 : nok nx d1 fp) (hPx : P x = some (nI nx, nI d1, fp)) (hj : j < 8) (hkd : kd < 2) (hN : nx * nx ≤ 24) (hd : d1 + d1 ≤ 8) : zCtr yX1_glued cX1_glued 13 (some .boolean) 8 10 80 [zr 1 0, zi (nI j), zi (nI kd), zi (nI x), zi (nI x)] (xH P t fp0) (fun r w => r = some (zi (bI true)) ∧ w = xH (zput P j (some (nI (nx * nx), nI (d1 + d1), cgk kd nx fp fp (nx * nx)))) t fp0) zNx := by
  refine z_start (by decide) [some (zr 1 0), some (zi (nI j)), some (zi (nI kd)), some (zi (nI x)), some (zi (nI x)), none, none, none, none, none, none, none, none] rfl (fun _ => Nat.le_of_ble_eq_true rfl) (fun _ => rfl) (fun X F E hno hin => ?_)
  have p1 := h1.n1
  have p2 := h1.n1
  have p3 := h1.n24
  have p4 := h1.n24
  have p5 := h1.d1
  have inner : ∀ (k k0 n0 : Nat), k < nx * nx → k0 ≤ 10 → n0 ≤ 80 → (Z X [some (zr 1 0), some (zi (nI j)), some (zi (nI kd)), some (zi (nI x)), some (zi (nI x)), some (zr 22 0), some (zr 22 0), some (zr 24 0), some (zi (nI (k + 1))), none, none, none, none] [] [zPl (zput (pR P) x (zr 22 0)) (zput P x none), xO t fp0, zH, zH, zH, zH, zH, zH, zH, zH, zH, zH, zH, zH, zH, zH, zH, zH, zH, zH, zH, zH, eNet 23 (nI nx) (nI d1), zAi 0 24 fp, eNet 25 (nI (nx * nx)) (nI (d1 + d1)), zAi 0 24 (cgk kd nx fp fp (k + 1))] k0 n0 95) →
      ∀ (m l : Nat), k - l < m → l ≤ k → Z X [some (zr 1 0), some (zi (nI j)), some (zi (nI kd)), some (zi (nI x)), some (zi (nI x)), some (zr 22 0), some (zr 22 0), some (zr 24 0), some (zi (nI k)), some (zi (nI l)), none, none, none] [] [zPl (zput (pR P) x (zr 22 0)) (zput P x none), xO t fp0, zH, zH, zH, zH, zH, zH, zH, zH, zH, zH, zH, zH, zH, zH, zH, zH, zH, zH, zH, zH, eNet 23 (nI nx) (nI d1), zAi 0 24 fp, eNet 25 (nI (nx * nx)) (nI (d1 + d1)), zAi 0 24 (cgl kd nx fp fp k (cgk kd nx fp fp k) l)] k0 n0 108 := by
    intro k k0 n0 hk hk0 hn0 kk m
    induction m with
    | zero => intro l hm; omega
    | succ m ih =>
      intro l hm hl
      have i1 : l < k → _ := fun z => ih (l + 1) (by omega) z
      rw [cgl] at i1
      have a1 : k % nx < nx := Nat.mod_lt _ p1
      have a2 : l % nx < nx := Nat.mod_lt _ p1
      have a3 : k / nx < nx := dm_lt hk
      have a4 : l < k → l / nx < nx := fun z => dm_lt (by omega)
      have back : ∀ (f : Nat → Int32), l < k → f = (if glR kd nx fp fp k l = true then jn (cgl kd nx fp fp k (cgk kd nx fp fp k) l) k l else cgl kd nx fp fp k (cgk kd nx fp fp k) l) → Z X [some (zr 1 0), some (zi (nI j)), some (zi (nI kd)), some (zi (nI x)), some (zi (nI x)), some (zr 22 0), some (zr 22 0), some (zr 24 0), some (zi (nI k)), some (zi (nI l)), none, none, none] [] [zPl (zput (pR P) x (zr 22 0)) (zput P x none), xO t fp0, zH, zH, zH, zH, zH, zH, zH, zH, zH, zH, zH, zH, zH, zH, zH, zH, zH, zH, zH, zH, eNet 23 (nI nx) (nI d1), zAi 0 24 fp, eNet 25 (nI (nx * nx)) (nI (d1 + d1)), zAi 0 24 f] k0 n0 261 := by
        intro f hlk hf
        have i1 := i1 hlk
        rw [← hf] at i1
        refine z_iincN F 1 dX1_glued_261 rfl rfl ?_
        refine z_leq (L' := [_, _, _, _, _, _, _, _, _, _, _, _, _]) rfl ?_
        refine z_goto F (tgt := 108) dX1_glued_264 (by decide) ?_
        exact i1
      refine z_iload F dX1_glued_108 rfl ?_
      refine z_iload F dX1_glued_110 rfl ?_
      refine z_icmp_geN F (by omega) (by omega) (tgt := 267) dX1_glued_112 (by decide) (fun c_112 => ?_) (fun c_112 => ?_)
      · refine z_iincN F 1 dX1_glued_267 rfl rfl ?_
        refine z_leq (L' := [_, _, _, _, _, _, _, _, _, _, _, _, _]) rfl ?_
        refine z_goto F (tgt := 95) dX1_glued_270 (by decide) ?_
        rw [show l = k by omega]
        refine z_loc _ ?_ kk
        exact ⟨rfl, rfl, rfl, rfl, rfl, rfl, rfl, rfl, rfl, trivial⟩
      · have a4 := a4 (by omega)
        refine z_iload F dX1_glued_115 rfl ?_
        refine z_aload F dX1_glued_117 rfl ?_
        refine z_getN F zC5 (f := 0) rfl (Nat.le_of_ble_eq_true rfl) q245 rfl dX1_glued_119 ?_
        refine z_iremN F (by omega) (by omega) (by omega) dX1_glued_122 ?_
        refine z_iload F dX1_glued_123 rfl ?_
        refine z_aload F dX1_glued_125 rfl ?_
        refine z_getN F zC5 (f := 0) rfl (Nat.le_of_ble_eq_true rfl) q245 rfl dX1_glued_127 ?_
        refine z_iremN F (by omega) (by omega) (by omega) dX1_glued_130 ?_
        refine z_icmp_neN F (by omega) (by omega) (tgt := 138) dX1_glued_131 (by decide) (fun c_131 => ?_) (fun c_131 => ?_)
        · refine z_iconstB F false dX1_glued_138 rfl ?_
          refine z_istore F dX1_glued_139 (Nat.le_of_ble_eq_true rfl) ?_
          refine z_leq (L' := [_, _, _, _, _, _, _, _, _, _, _, _, _]) rfl ?_
          refine z_iload F dX1_glued_141 rfl ?_
          refine z_aload F dX1_glued_143 rfl ?_
          refine z_getN F zC5 (f := 0) rfl (Nat.le_of_ble_eq_true rfl) q245 rfl dX1_glued_145 ?_
          refine z_idivN F (by omega) (by omega) (by omega) dX1_glued_148 ?_
          refine z_iload F dX1_glued_149 rfl ?_
          refine z_aload F dX1_glued_151 rfl ?_
          refine z_getN F zC5 (f := 0) rfl (Nat.le_of_ble_eq_true rfl) q245 rfl dX1_glued_153 ?_
          refine z_idivN F (by omega) (by omega) (by omega) dX1_glued_156 ?_
          refine z_icmp_neN F (by omega) (by omega) (tgt := 164) dX1_glued_157 (by decide) (fun c_157 => ?_) (fun c_157 => ?_)
          · refine z_iconstB F false dX1_glued_164 rfl ?_
            refine z_istore F dX1_glued_165 (Nat.le_of_ble_eq_true rfl) ?_
            refine z_leq (L' := [_, _, _, _, _, _, _, _, _, _, _, _, _]) rfl ?_
            refine z_iload F dX1_glued_167 rfl ?_
            refine z_if_eqB F (tgt := 215) dX1_glued_169 (by decide) (fun c_169 => ?_) (fun c_169 => ?_)
            · refine z_iconstB F false dX1_glued_215 rfl ?_
              refine z_istore F dX1_glued_216 (Nat.le_of_ble_eq_true rfl) ?_
              refine z_leq (L' := [_, _, _, _, _, _, _, _, _, _, _, _, _]) rfl ?_
              refine z_iload F dX1_glued_218 rfl ?_
              refine z_if_neB F (tgt := 252) dX1_glued_220 (by decide) (fun c_220 => ?_) (fun c_220 => ?_)
              · cases c_220
              · refine z_iload F dX1_glued_223 rfl ?_
                refine z_if_eqB F (tgt := 261) dX1_glued_225 (by decide) (fun c_225 => ?_) (fun c_225 => ?_)
                · refine z_loc _ ?_ (back _ (by omega) (if_neg (glF (by first | exact (fun z => c_157 z.1) | exact (fun z => z.2.1.elim c_173 c_184) | exact (fun z => by rw [z.2.2] at c_208; cases c_208)) (fun z => c_131 z.1))).symm)
                  exact ⟨rfl, rfl, rfl, rfl, rfl, rfl, rfl, rfl, rfl, rfl, trivial⟩
                · cases c_225
            · cases c_169
          · refine z_iconstB F true dX1_glued_160 rfl ?_
            refine z_goto F (tgt := 165) dX1_glued_161 (by decide) ?_
            refine z_istore F dX1_glued_165 (Nat.le_of_ble_eq_true rfl) ?_
            refine z_leq (L' := [_, _, _, _, _, _, _, _, _, _, _, _, _]) rfl ?_
            refine z_iload F dX1_glued_167 rfl ?_
            refine z_if_eqB F (tgt := 215) dX1_glued_169 (by decide) (fun c_169 => ?_) (fun c_169 => ?_)
            · cases c_169
            · refine z_iload_n F dX1_glued_172 rfl ?_
              refine z_if_eqN F (by omega) (tgt := 187) dX1_glued_173 (by decide) (fun c_173 => ?_) (fun c_173 => ?_)
              · refine z_aload F dX1_glued_187 rfl ?_
                refine z_iload F dX1_glued_189 rfl ?_
                refine z_aload F dX1_glued_191 rfl ?_
                refine z_getN F zC5 (f := 0) rfl (Nat.le_of_ble_eq_true rfl) q245 rfl dX1_glued_193 ?_
                refine z_iremN F (by omega) (by omega) (by omega) dX1_glued_196 ?_
                refine z_iload F dX1_glued_197 rfl ?_
                refine z_aload F dX1_glued_199 rfl ?_
                refine z_getN F zC5 (f := 0) rfl (Nat.le_of_ble_eq_true rfl) q245 rfl dX1_glued_201 ?_
                refine z_iremN F (by omega) (by omega) (by omega) dX1_glued_204 ?_
                refine z_callV F (c_has (nI nx) (nI d1) fp (k % nx) (l % nx) (by omega) (by omega)) 2 rfl (lw_V q524 q508 q509 q116 q510) (by decide +kernel) ⟨Nat.le_of_ble_eq_true rfl, Nat.le_of_ble_eq_true rfl⟩ ⟨by omega, by omega⟩ [0, 22, 23] 26 ⟨rfl, rfl, rfl, ⟨Or.inl rfl, Or.inr rfl, Or.inr rfl, trivial⟩⟩ (fun h => nomatch h) (Nat.le_of_ble_eq_true rfl) ⟨⟨Or.inr (by first | exact ⟨rfl, pR_B _ (by decide)⟩ | exact ⟨rfl, uR_B (by decide) (by decide)⟩ | exact ⟨rfl, gR_B (by decide) (by decide) (by decide)⟩), Or.inr rfl, Or.inr trivial, Or.inr trivial, Or.inr trivial, Or.inr trivial, Or.inr trivial, Or.inr trivial, Or.inr trivial, Or.inr trivial, Or.inr trivial, Or.inr trivial, Or.inr trivial, Or.inr trivial, Or.inr trivial, Or.inr trivial, Or.inr trivial, Or.inr trivial, Or.inr trivial, Or.inr trivial, Or.inr trivial, Or.inr trivial, Or.inl rfl, Or.inl rfl, Or.inr rfl, Or.inr trivial, trivial⟩, rfl, rfl, rfl, Nat.le_of_ble_eq_true rfl⟩ rfl zC5 rfl rfl dX1_glued_205 (fun r_205 w_205 hp => ?_) (fun _ _ h => h.elim)
                obtain ⟨rfl, rfl⟩ := hp
                refine z_weq (w' := [zPl _ _, zO _ [zr _ _, zr _ _, zr _ _, zr _ _, zr _ _, zi _, zi _, zr _ _, zr _ _], zH, zH, zH, zH, zH, zH, zH, zH, zH, zH, zH, zH, zH, zH, zH, zH, zH, zH, zH, zH, zO _ [zi _, zi _, zr _ _], zAi 0 24 _, zO _ [zi _, zi _, zr _ _], zAi 0 24 _]) rfl ?_
                refine z_seq (S' := zi _ :: _) rfl ?_
                refine z_if_eqB F (tgt := 215) dX1_glued_208 (by decide) (fun c_208 => ?_) (fun c_208 => ?_)
                · refine z_iconstB F false dX1_glued_215 rfl ?_
                  refine z_istore F dX1_glued_216 (Nat.le_of_ble_eq_true rfl) ?_
                  refine z_leq (L' := [_, _, _, _, _, _, _, _, _, _, _, _, _]) rfl ?_
                  refine z_iload F dX1_glued_218 rfl ?_
                  refine z_if_neB F (tgt := 252) dX1_glued_220 (by decide) (fun c_220 => ?_) (fun c_220 => ?_)
                  · cases c_220
                  · refine z_iload F dX1_glued_223 rfl ?_
                    refine z_if_eqB F (tgt := 261) dX1_glued_225 (by decide) (fun c_225 => ?_) (fun c_225 => ?_)
                    · refine z_loc _ ?_ (back _ (by omega) (if_neg (glF (by first | exact (fun z => c_157 z.1) | exact (fun z => z.2.1.elim c_173 c_184) | exact (fun z => by rw [z.2.2] at c_208; cases c_208)) (fun z => c_131 z.1))).symm)
                      exact ⟨rfl, rfl, rfl, rfl, rfl, rfl, rfl, rfl, rfl, rfl, trivial⟩
                    · cases c_225
                · refine z_iconstB F true dX1_glued_211 rfl ?_
                  refine z_goto F (tgt := 216) dX1_glued_212 (by decide) ?_
                  refine z_istore F dX1_glued_216 (Nat.le_of_ble_eq_true rfl) ?_
                  refine z_leq (L' := [_, _, _, _, _, _, _, _, _, _, _, _, _]) rfl ?_
                  refine z_iload F dX1_glued_218 rfl ?_
                  refine z_if_neB F (tgt := 252) dX1_glued_220 (by decide) (fun c_220 => ?_) (fun c_220 => ?_)
                  · refine z_aload F dX1_glued_252 rfl ?_
                    refine z_iload F dX1_glued_254 rfl ?_
                    refine z_iload F dX1_glued_256 rfl ?_
                    refine z_callV F (c_setj (nI (nx * nx)) (nI (d1 + d1)) _ k l (by omega) (by omega)) 2 rfl (lw_V q516 q418 q419 q116 q420) (by decide +kernel) ⟨Nat.le_of_ble_eq_true rfl, Nat.le_of_ble_eq_true rfl⟩ ⟨by omega, by omega⟩ [0, 24, 25] 26 ⟨rfl, rfl, rfl, ⟨Or.inl rfl, Or.inr rfl, Or.inr rfl, trivial⟩⟩ (fun h => nomatch h) (Nat.le_of_ble_eq_true rfl) ⟨⟨Or.inr (by first | exact ⟨rfl, pR_B _ (by decide)⟩ | exact ⟨rfl, uR_B (by decide) (by decide)⟩ | exact ⟨rfl, gR_B (by decide) (by decide) (by decide)⟩), Or.inr rfl, Or.inr trivial, Or.inr trivial, Or.inr trivial, Or.inr trivial, Or.inr trivial, Or.inr trivial, Or.inr trivial, Or.inr trivial, Or.inr trivial, Or.inr trivial, Or.inr trivial, Or.inr trivial, Or.inr trivial, Or.inr trivial, Or.inr trivial, Or.inr trivial, Or.inr trivial, Or.inr trivial, Or.inr trivial, Or.inr trivial, Or.inr rfl, Or.inr trivial, Or.inl rfl, Or.inl rfl, trivial⟩, rfl, rfl, rfl, Nat.le_of_ble_eq_true rfl⟩ rfl zC5 rfl rfl dX1_glued_258 (fun r_258 w_258 hp => ?_) (fun _ _ h => h.elim)
                    obtain ⟨rfl, rfl⟩ := hp
                    refine z_weq (w' := [zPl _ _, zO _ [zr _ _, zr _ _, zr _ _, zr _ _, zr _ _, zi _, zi _, zr _ _, zr _ _], zH, zH, zH, zH, zH, zH, zH, zH, zH, zH, zH, zH, zH, zH, zH, zH, zH, zH, zH, zH, zO _ [zi _, zi _, zr _ _], zAi 0 24 _, zO _ [zi _, zi _, zr _ _], zAi 0 24 _]) rfl ?_
                    refine z_seq (S' := []) rfl ?_
                    refine z_loc _ ?_ (back _ (by omega) (if_pos (glT1 c_157 (by first | exact Or.inl c_173 | exact Or.inr c_184) c_208)).symm)
                    exact ⟨rfl, rfl, rfl, rfl, rfl, rfl, rfl, rfl, rfl, rfl, trivial⟩
                  · cases c_220
              · refine z_iload F dX1_glued_176 rfl ?_
                refine z_aload F dX1_glued_178 rfl ?_
                refine z_getN F zC5 (f := 0) rfl (Nat.le_of_ble_eq_true rfl) q245 rfl dX1_glued_180 ?_
                refine z_idivN F (by omega) (by omega) (by omega) dX1_glued_183 ?_
                refine z_if_neN F (by omega) (tgt := 215) dX1_glued_184 (by decide) (fun c_184 => ?_) (fun c_184 => ?_)
                · refine z_iconstB F false dX1_glued_215 rfl ?_
                  refine z_istore F dX1_glued_216 (Nat.le_of_ble_eq_true rfl) ?_
                  refine z_leq (L' := [_, _, _, _, _, _, _, _, _, _, _, _, _]) rfl ?_
                  refine z_iload F dX1_glued_218 rfl ?_
                  refine z_if_neB F (tgt := 252) dX1_glued_220 (by decide) (fun c_220 => ?_) (fun c_220 => ?_)
                  · cases c_220
                  · refine z_iload F dX1_glued_223 rfl ?_
                    refine z_if_eqB F (tgt := 261) dX1_glued_225 (by decide) (fun c_225 => ?_) (fun c_225 => ?_)
                    · refine z_loc _ ?_ (back _ (by omega) (if_neg (glF (by first | exact (fun z => c_157 z.1) | exact (fun z => z.2.1.elim c_173 c_184) | exact (fun z => by rw [z.2.2] at c_208; cases c_208)) (fun z => c_131 z.1))).symm)
                      exact ⟨rfl, rfl, rfl, rfl, rfl, rfl, rfl, rfl, rfl, rfl, trivial⟩
                    · cases c_225
                · refine z_aload F dX1_glued_187 rfl ?_
                  refine z_iload F dX1_glued_189 rfl ?_
                  refine z_aload F dX1_glued_191 rfl ?_
                  refine z_getN F zC5 (f := 0) rfl (Nat.le_of_ble_eq_true rfl) q245 rfl dX1_glued_193 ?_
                  refine z_iremN F (by omega) (by omega) (by omega) dX1_glued_196 ?_
                  refine z_iload F dX1_glued_197 rfl ?_
                  refine z_aload F dX1_glued_199 rfl ?_
                  refine z_getN F zC5 (f := 0) rfl (Nat.le_of_ble_eq_true rfl) q245 rfl dX1_glued_201 ?_
                  refine z_iremN F (by omega) (by omega) (by omega) dX1_glued_204 ?_
                  refine z_callV F (c_has (nI nx) (nI d1) fp (k % nx) (l % nx) (by omega) (by omega)) 2 rfl (lw_V q524 q508 q509 q116 q510) (by decide +kernel) ⟨Nat.le_of_ble_eq_true rfl, Nat.le_of_ble_eq_true rfl⟩ ⟨by omega, by omega⟩ [0, 22, 23] 26 ⟨rfl, rfl, rfl, ⟨Or.inl rfl, Or.inr rfl, Or.inr rfl, trivial⟩⟩ (fun h => nomatch h) (Nat.le_of_ble_eq_true rfl) ⟨⟨Or.inr (by first | exact ⟨rfl, pR_B _ (by decide)⟩ | exact ⟨rfl, uR_B (by decide) (by decide)⟩ | exact ⟨rfl, gR_B (by decide) (by decide) (by decide)⟩), Or.inr rfl, Or.inr trivial, Or.inr trivial, Or.inr trivial, Or.inr trivial, Or.inr trivial, Or.inr trivial, Or.inr trivial, Or.inr trivial, Or.inr trivial, Or.inr trivial, Or.inr trivial, Or.inr trivial, Or.inr trivial, Or.inr trivial, Or.inr trivial, Or.inr trivial, Or.inr trivial, Or.inr trivial, Or.inr trivial, Or.inr trivial, Or.inl rfl, Or.inl rfl, Or.inr rfl, Or.inr trivial, trivial⟩, rfl, rfl, rfl, Nat.le_of_ble_eq_true rfl⟩ rfl zC5 rfl rfl dX1_glued_205 (fun r_205 w_205 hp => ?_) (fun _ _ h => h.elim)
                  obtain ⟨rfl, rfl⟩ := hp
                  refine z_weq (w' := [zPl _ _, zO _ [zr _ _, zr _ _, zr _ _, zr _ _, zr _ _, zi _, zi _, zr _ _, zr _ _], zH, zH, zH, zH, zH, zH, zH, zH, zH, zH, zH, zH, zH, zH, zH, zH, zH, zH, zH, zH, zO _ [zi _, zi _, zr _ _], zAi 0 24 _, zO _ [zi _, zi _, zr _ _], zAi 0 24 _]) rfl ?_
                  refine z_seq (S' := zi _ :: _) rfl ?_
                  refine z_if_eqB F (tgt := 215) dX1_glued_208 (by decide) (fun c_208 => ?_) (fun c_208 => ?_)
                  · refine z_iconstB F false dX1_glued_215 rfl ?_
                    refine z_istore F dX1_glued_216 (Nat.le_of_ble_eq_true rfl) ?_
                    refine z_leq (L' := [_, _, _, _, _, _, _, _, _, _, _, _, _]) rfl ?_
                    refine z_iload F dX1_glued_218 rfl ?_
                    refine z_if_neB F (tgt := 252) dX1_glued_220 (by decide) (fun c_220 => ?_) (fun c_220 => ?_)
                    · cases c_220
                    · refine z_iload F dX1_glued_223 rfl ?_
                      refine z_if_eqB F (tgt := 261) dX1_glued_225 (by decide) (fun c_225 => ?_) (fun c_225 => ?_)
                      · refine z_loc _ ?_ (back _ (by omega) (if_neg (glF (by first | exact (fun z => c_157 z.1) | exact (fun z => z.2.1.elim c_173 c_184) | exact (fun z => by rw [z.2.2] at c_208; cases c_208)) (fun z => c_131 z.1))).symm)
                        exact ⟨rfl, rfl, rfl, rfl, rfl, rfl, rfl, rfl, rfl, rfl, trivial⟩
                      · cases c_225
                  · refine z_iconstB F true dX1_glued_211 rfl ?_
                    refine z_goto F (tgt := 216) dX1_glued_212 (by decide) ?_
                    refine z_istore F dX1_glued_216 (Nat.le_of_ble_eq_true rfl) ?_
                    refine z_leq (L' := [_, _, _, _, _, _, _, _, _, _, _, _, _]) rfl ?_
                    refine z_iload F dX1_glued_218 rfl ?_
                    refine z_if_neB F (tgt := 252) dX1_glued_220 (by decide) (fun c_220 => ?_) (fun c_220 => ?_)
                    · refine z_aload F dX1_glued_252 rfl ?_
                      refine z_iload F dX1_glued_254 rfl ?_
                      refine z_iload F dX1_glued_256 rfl ?_
                      refine z_callV F (c_setj (nI (nx * nx)) (nI (d1 + d1)) _ k l (by omega) (by omega)) 2 rfl (lw_V q516 q418 q419 q116 q420) (by decide +kernel) ⟨Nat.le_of_ble_eq_true rfl, Nat.le_of_ble_eq_true rfl⟩ ⟨by omega, by omega⟩ [0, 24, 25] 26 ⟨rfl, rfl, rfl, ⟨Or.inl rfl, Or.inr rfl, Or.inr rfl, trivial⟩⟩ (fun h => nomatch h) (Nat.le_of_ble_eq_true rfl) ⟨⟨Or.inr (by first | exact ⟨rfl, pR_B _ (by decide)⟩ | exact ⟨rfl, uR_B (by decide) (by decide)⟩ | exact ⟨rfl, gR_B (by decide) (by decide) (by decide)⟩), Or.inr rfl, Or.inr trivial, Or.inr trivial, Or.inr trivial, Or.inr trivial, Or.inr trivial, Or.inr trivial, Or.inr trivial, Or.inr trivial, Or.inr trivial, Or.inr trivial, Or.inr trivial, Or.inr trivial, Or.inr trivial, Or.inr trivial, Or.inr trivial, Or.inr trivial, Or.inr trivial, Or.inr trivial, Or.inr trivial, Or.inr trivial, Or.inr rfl, Or.inr trivial, Or.inl rfl, Or.inl rfl, trivial⟩, rfl, rfl, rfl, Nat.le_of_ble_eq_true rfl⟩ rfl zC5 rfl rfl dX1_glued_258 (fun r_258 w_258 hp => ?_) (fun _ _ h => h.elim)
                      obtain ⟨rfl, rfl⟩ := hp
                      refine z_weq (w' := [zPl _ _, zO _ [zr _ _, zr _ _, zr _ _, zr _ _, zr _ _, zi _, zi _, zr _ _, zr _ _], zH, zH, zH, zH, zH, zH, zH, zH, zH, zH, zH, zH, zH, zH, zH, zH, zH, zH, zH, zH, zO _ [zi _, zi _, zr _ _], zAi 0 24 _, zO _ [zi _, zi _, zr _ _], zAi 0 24 _]) rfl ?_
                      refine z_seq (S' := []) rfl ?_
                      refine z_loc _ ?_ (back _ (by omega) (if_pos (glT1 c_157 (by first | exact Or.inl c_173 | exact Or.inr c_184) c_208)).symm)
                      exact ⟨rfl, rfl, rfl, rfl, rfl, rfl, rfl, rfl, rfl, rfl, trivial⟩
                    · cases c_220
        · refine z_iconstB F true dX1_glued_134 rfl ?_
          refine z_goto F (tgt := 139) dX1_glued_135 (by decide) ?_
          refine z_istore F dX1_glued_139 (Nat.le_of_ble_eq_true rfl) ?_
          refine z_leq (L' := [_, _, _, _, _, _, _, _, _, _, _, _, _]) rfl ?_
          refine z_iload F dX1_glued_141 rfl ?_
          refine z_aload F dX1_glued_143 rfl ?_
          refine z_getN F zC5 (f := 0) rfl (Nat.le_of_ble_eq_true rfl) q245 rfl dX1_glued_145 ?_
          refine z_idivN F (by omega) (by omega) (by omega) dX1_glued_148 ?_
          refine z_iload F dX1_glued_149 rfl ?_
          refine z_aload F dX1_glued_151 rfl ?_
          refine z_getN F zC5 (f := 0) rfl (Nat.le_of_ble_eq_true rfl) q245 rfl dX1_glued_153 ?_
          refine z_idivN F (by omega) (by omega) (by omega) dX1_glued_156 ?_
          refine z_icmp_neN F (by omega) (by omega) (tgt := 164) dX1_glued_157 (by decide) (fun c_157 => ?_) (fun c_157 => ?_)
          · refine z_iconstB F false dX1_glued_164 rfl ?_
            refine z_istore F dX1_glued_165 (Nat.le_of_ble_eq_true rfl) ?_
            refine z_leq (L' := [_, _, _, _, _, _, _, _, _, _, _, _, _]) rfl ?_
            refine z_iload F dX1_glued_167 rfl ?_
            refine z_if_eqB F (tgt := 215) dX1_glued_169 (by decide) (fun c_169 => ?_) (fun c_169 => ?_)
            · refine z_iconstB F false dX1_glued_215 rfl ?_
              refine z_istore F dX1_glued_216 (Nat.le_of_ble_eq_true rfl) ?_
              refine z_leq (L' := [_, _, _, _, _, _, _, _, _, _, _, _, _]) rfl ?_
              refine z_iload F dX1_glued_218 rfl ?_
              refine z_if_neB F (tgt := 252) dX1_glued_220 (by decide) (fun c_220 => ?_) (fun c_220 => ?_)
              · cases c_220
              · refine z_iload F dX1_glued_223 rfl ?_
                refine z_if_eqB F (tgt := 261) dX1_glued_225 (by decide) (fun c_225 => ?_) (fun c_225 => ?_)
                · cases c_225
                · refine z_aload F dX1_glued_228 rfl ?_
                  refine z_iload F dX1_glued_230 rfl ?_
                  refine z_aload F dX1_glued_232 rfl ?_
                  refine z_getN F zC5 (f := 0) rfl (Nat.le_of_ble_eq_true rfl) q245 rfl dX1_glued_234 ?_
                  refine z_idivN F (by omega) (by omega) (by omega) dX1_glued_237 ?_
                  refine z_iload F dX1_glued_238 rfl ?_
                  refine z_aload F dX1_glued_240 rfl ?_
                  refine z_getN F zC5 (f := 0) rfl (Nat.le_of_ble_eq_true rfl) q245 rfl dX1_glued_242 ?_
                  refine z_idivN F (by omega) (by omega) (by omega) dX1_glued_245 ?_
                  refine z_callV F (c_has (nI nx) (nI d1) fp (k / nx) (l / nx) (by omega) (by omega)) 2 rfl (lw_V q524 q508 q509 q116 q510) (by decide +kernel) ⟨Nat.le_of_ble_eq_true rfl, Nat.le_of_ble_eq_true rfl⟩ ⟨by omega, by omega⟩ [0, 22, 23] 26 ⟨rfl, rfl, rfl, ⟨Or.inl rfl, Or.inr rfl, Or.inr rfl, trivial⟩⟩ (fun h => nomatch h) (Nat.le_of_ble_eq_true rfl) ⟨⟨Or.inr (by first | exact ⟨rfl, pR_B _ (by decide)⟩ | exact ⟨rfl, uR_B (by decide) (by decide)⟩ | exact ⟨rfl, gR_B (by decide) (by decide) (by decide)⟩), Or.inr rfl, Or.inr trivial, Or.inr trivial, Or.inr trivial, Or.inr trivial, Or.inr trivial, Or.inr trivial, Or.inr trivial, Or.inr trivial, Or.inr trivial, Or.inr trivial, Or.inr trivial, Or.inr trivial, Or.inr trivial, Or.inr trivial, Or.inr trivial, Or.inr trivial, Or.inr trivial, Or.inr trivial, Or.inr trivial, Or.inr trivial, Or.inl rfl, Or.inl rfl, Or.inr rfl, Or.inr trivial, trivial⟩, rfl, rfl, rfl, Nat.le_of_ble_eq_true rfl⟩ rfl zC5 rfl rfl dX1_glued_246 (fun r_246 w_246 hp => ?_) (fun _ _ h => h.elim)
                  obtain ⟨rfl, rfl⟩ := hp
                  refine z_weq (w' := [zPl _ _, zO _ [zr _ _, zr _ _, zr _ _, zr _ _, zr _ _, zi _, zi _, zr _ _, zr _ _], zH, zH, zH, zH, zH, zH, zH, zH, zH, zH, zH, zH, zH, zH, zH, zH, zH, zH, zH, zH, zO _ [zi _, zi _, zr _ _], zAi 0 24 _, zO _ [zi _, zi _, zr _ _], zAi 0 24 _]) rfl ?_
                  refine z_seq (S' := zi _ :: _) rfl ?_
                  refine z_if_eqB F (tgt := 261) dX1_glued_249 (by decide) (fun c_249 => ?_) (fun c_249 => ?_)
                  · refine z_loc _ ?_ (back _ (by omega) (if_neg (glF (by first | exact (fun z => c_157 z.1) | exact (fun z => z.2.1.elim c_173 c_184) | exact (fun z => by rw [z.2.2] at c_208; cases c_208)) (fun z => by rw [z.2] at c_249; cases c_249))).symm)
                    exact ⟨rfl, rfl, rfl, rfl, rfl, rfl, rfl, rfl, rfl, rfl, trivial⟩
                  · refine z_aload F dX1_glued_252 rfl ?_
                    refine z_iload F dX1_glued_254 rfl ?_
                    refine z_iload F dX1_glued_256 rfl ?_
                    refine z_callV F (c_setj (nI (nx * nx)) (nI (d1 + d1)) _ k l (by omega) (by omega)) 2 rfl (lw_V q516 q418 q419 q116 q420) (by decide +kernel) ⟨Nat.le_of_ble_eq_true rfl, Nat.le_of_ble_eq_true rfl⟩ ⟨by omega, by omega⟩ [0, 24, 25] 26 ⟨rfl, rfl, rfl, ⟨Or.inl rfl, Or.inr rfl, Or.inr rfl, trivial⟩⟩ (fun h => nomatch h) (Nat.le_of_ble_eq_true rfl) ⟨⟨Or.inr (by first | exact ⟨rfl, pR_B _ (by decide)⟩ | exact ⟨rfl, uR_B (by decide) (by decide)⟩ | exact ⟨rfl, gR_B (by decide) (by decide) (by decide)⟩), Or.inr rfl, Or.inr trivial, Or.inr trivial, Or.inr trivial, Or.inr trivial, Or.inr trivial, Or.inr trivial, Or.inr trivial, Or.inr trivial, Or.inr trivial, Or.inr trivial, Or.inr trivial, Or.inr trivial, Or.inr trivial, Or.inr trivial, Or.inr trivial, Or.inr trivial, Or.inr trivial, Or.inr trivial, Or.inr trivial, Or.inr trivial, Or.inr rfl, Or.inr trivial, Or.inl rfl, Or.inl rfl, trivial⟩, rfl, rfl, rfl, Nat.le_of_ble_eq_true rfl⟩ rfl zC5 rfl rfl dX1_glued_258 (fun r_258 w_258 hp => ?_) (fun _ _ h => h.elim)
                    obtain ⟨rfl, rfl⟩ := hp
                    refine z_weq (w' := [zPl _ _, zO _ [zr _ _, zr _ _, zr _ _, zr _ _, zr _ _, zi _, zi _, zr _ _, zr _ _], zH, zH, zH, zH, zH, zH, zH, zH, zH, zH, zH, zH, zH, zH, zH, zH, zH, zH, zH, zH, zO _ [zi _, zi _, zr _ _], zAi 0 24 _, zO _ [zi _, zi _, zr _ _], zAi 0 24 _]) rfl ?_
                    refine z_seq (S' := []) rfl ?_
                    refine z_loc _ ?_ (back _ (by omega) (if_pos (glT2 c_131 c_249)).symm)
                    exact ⟨rfl, rfl, rfl, rfl, rfl, rfl, rfl, rfl, rfl, rfl, trivial⟩
            · cases c_169
          · refine z_iconstB F true dX1_glued_160 rfl ?_
            refine z_goto F (tgt := 165) dX1_glued_161 (by decide) ?_
            refine z_istore F dX1_glued_165 (Nat.le_of_ble_eq_true rfl) ?_
            refine z_leq (L' := [_, _, _, _, _, _, _, _, _, _, _, _, _]) rfl ?_
            refine z_iload F dX1_glued_167 rfl ?_
            refine z_if_eqB F (tgt := 215) dX1_glued_169 (by decide) (fun c_169 => ?_) (fun c_169 => ?_)
            · cases c_169
            · refine z_iload_n F dX1_glued_172 rfl ?_
              refine z_if_eqN F (by omega) (tgt := 187) dX1_glued_173 (by decide) (fun c_173 => ?_) (fun c_173 => ?_)
              · refine z_aload F dX1_glued_187 rfl ?_
                refine z_iload F dX1_glued_189 rfl ?_
                refine z_aload F dX1_glued_191 rfl ?_
                refine z_getN F zC5 (f := 0) rfl (Nat.le_of_ble_eq_true rfl) q245 rfl dX1_glued_193 ?_
                refine z_iremN F (by omega) (by omega) (by omega) dX1_glued_196 ?_
                refine z_iload F dX1_glued_197 rfl ?_
                refine z_aload F dX1_glued_199 rfl ?_
                refine z_getN F zC5 (f := 0) rfl (Nat.le_of_ble_eq_true rfl) q245 rfl dX1_glued_201 ?_
                refine z_iremN F (by omega) (by omega) (by omega) dX1_glued_204 ?_
                refine z_callV F (c_has (nI nx) (nI d1) fp (k % nx) (l % nx) (by omega) (by omega)) 2 rfl (lw_V q524 q508 q509 q116 q510) (by decide +kernel) ⟨Nat.le_of_ble_eq_true rfl, Nat.le_of_ble_eq_true rfl⟩ ⟨by omega, by omega⟩ [0, 22, 23] 26 ⟨rfl, rfl, rfl, ⟨Or.inl rfl, Or.inr rfl, Or.inr rfl, trivial⟩⟩ (fun h => nomatch h) (Nat.le_of_ble_eq_true rfl) ⟨⟨Or.inr (by first | exact ⟨rfl, pR_B _ (by decide)⟩ | exact ⟨rfl, uR_B (by decide) (by decide)⟩ | exact ⟨rfl, gR_B (by decide) (by decide) (by decide)⟩), Or.inr rfl, Or.inr trivial, Or.inr trivial, Or.inr trivial, Or.inr trivial, Or.inr trivial, Or.inr trivial, Or.inr trivial, Or.inr trivial, Or.inr trivial, Or.inr trivial, Or.inr trivial, Or.inr trivial, Or.inr trivial, Or.inr trivial, Or.inr trivial, Or.inr trivial, Or.inr trivial, Or.inr trivial, Or.inr trivial, Or.inr trivial, Or.inl rfl, Or.inl rfl, Or.inr rfl, Or.inr trivial, trivial⟩, rfl, rfl, rfl, Nat.le_of_ble_eq_true rfl⟩ rfl zC5 rfl rfl dX1_glued_205 (fun r_205 w_205 hp => ?_) (fun _ _ h => h.elim)
                obtain ⟨rfl, rfl⟩ := hp
                refine z_weq (w' := [zPl _ _, zO _ [zr _ _, zr _ _, zr _ _, zr _ _, zr _ _, zi _, zi _, zr _ _, zr _ _], zH, zH, zH, zH, zH, zH, zH, zH, zH, zH, zH, zH, zH, zH, zH, zH, zH, zH, zH, zH, zO _ [zi _, zi _, zr _ _], zAi 0 24 _, zO _ [zi _, zi _, zr _ _], zAi 0 24 _]) rfl ?_
                refine z_seq (S' := zi _ :: _) rfl ?_
                refine z_if_eqB F (tgt := 215) dX1_glued_208 (by decide) (fun c_208 => ?_) (fun c_208 => ?_)
                · refine z_iconstB F false dX1_glued_215 rfl ?_
                  refine z_istore F dX1_glued_216 (Nat.le_of_ble_eq_true rfl) ?_
                  refine z_leq (L' := [_, _, _, _, _, _, _, _, _, _, _, _, _]) rfl ?_
                  refine z_iload F dX1_glued_218 rfl ?_
                  refine z_if_neB F (tgt := 252) dX1_glued_220 (by decide) (fun c_220 => ?_) (fun c_220 => ?_)
                  · cases c_220
                  · refine z_iload F dX1_glued_223 rfl ?_
                    refine z_if_eqB F (tgt := 261) dX1_glued_225 (by decide) (fun c_225 => ?_) (fun c_225 => ?_)
                    · cases c_225
                    · refine z_aload F dX1_glued_228 rfl ?_
                      refine z_iload F dX1_glued_230 rfl ?_
                      refine z_aload F dX1_glued_232 rfl ?_
                      refine z_getN F zC5 (f := 0) rfl (Nat.le_of_ble_eq_true rfl) q245 rfl dX1_glued_234 ?_
                      refine z_idivN F (by omega) (by omega) (by omega) dX1_glued_237 ?_
                      refine z_iload F dX1_glued_238 rfl ?_
                      refine z_aload F dX1_glued_240 rfl ?_
                      refine z_getN F zC5 (f := 0) rfl (Nat.le_of_ble_eq_true rfl) q245 rfl dX1_glued_242 ?_
                      refine z_idivN F (by omega) (by omega) (by omega) dX1_glued_245 ?_
                      refine z_callV F (c_has (nI nx) (nI d1) fp (k / nx) (l / nx) (by omega) (by omega)) 2 rfl (lw_V q524 q508 q509 q116 q510) (by decide +kernel) ⟨Nat.le_of_ble_eq_true rfl, Nat.le_of_ble_eq_true rfl⟩ ⟨by omega, by omega⟩ [0, 22, 23] 26 ⟨rfl, rfl, rfl, ⟨Or.inl rfl, Or.inr rfl, Or.inr rfl, trivial⟩⟩ (fun h => nomatch h) (Nat.le_of_ble_eq_true rfl) ⟨⟨Or.inr (by first | exact ⟨rfl, pR_B _ (by decide)⟩ | exact ⟨rfl, uR_B (by decide) (by decide)⟩ | exact ⟨rfl, gR_B (by decide) (by decide) (by decide)⟩), Or.inr rfl, Or.inr trivial, Or.inr trivial, Or.inr trivial, Or.inr trivial, Or.inr trivial, Or.inr trivial, Or.inr trivial, Or.inr trivial, Or.inr trivial, Or.inr trivial, Or.inr trivial, Or.inr trivial, Or.inr trivial, Or.inr trivial, Or.inr trivial, Or.inr trivial, Or.inr trivial, Or.inr trivial, Or.inr trivial, Or.inr trivial, Or.inl rfl, Or.inl rfl, Or.inr rfl, Or.inr trivial, trivial⟩, rfl, rfl, rfl, Nat.le_of_ble_eq_true rfl⟩ rfl zC5 rfl rfl dX1_glued_246 (fun r_246 w_246 hp => ?_) (fun _ _ h => h.elim)
                      obtain ⟨rfl, rfl⟩ := hp
                      refine z_weq (w' := [zPl _ _, zO _ [zr _ _, zr _ _, zr _ _, zr _ _, zr _ _, zi _, zi _, zr _ _, zr _ _], zH, zH, zH, zH, zH, zH, zH, zH, zH, zH, zH, zH, zH, zH, zH, zH, zH, zH, zH, zH, zO _ [zi _, zi _, zr _ _], zAi 0 24 _, zO _ [zi _, zi _, zr _ _], zAi 0 24 _]) rfl ?_
                      refine z_seq (S' := zi _ :: _) rfl ?_
                      refine z_if_eqB F (tgt := 261) dX1_glued_249 (by decide) (fun c_249 => ?_) (fun c_249 => ?_)
                      · refine z_loc _ ?_ (back _ (by omega) (if_neg (glF (by first | exact (fun z => c_157 z.1) | exact (fun z => z.2.1.elim c_173 c_184) | exact (fun z => by rw [z.2.2] at c_208; cases c_208)) (fun z => by rw [z.2] at c_249; cases c_249))).symm)
                        exact ⟨rfl, rfl, rfl, rfl, rfl, rfl, rfl, rfl, rfl, rfl, trivial⟩
                      · refine z_aload F dX1_glued_252 rfl ?_
                        refine z_iload F dX1_glued_254 rfl ?_
                        refine z_iload F dX1_glued_256 rfl ?_
                        refine z_callV F (c_setj (nI (nx * nx)) (nI (d1 + d1)) _ k l (by omega) (by omega)) 2 rfl (lw_V q516 q418 q419 q116 q420) (by decide +kernel) ⟨Nat.le_of_ble_eq_true rfl, Nat.le_of_ble_eq_true rfl⟩ ⟨by omega, by omega⟩ [0, 24, 25] 26 ⟨rfl, rfl, rfl, ⟨Or.inl rfl, Or.inr rfl, Or.inr rfl, trivial⟩⟩ (fun h => nomatch h) (Nat.le_of_ble_eq_true rfl) ⟨⟨Or.inr (by first | exact ⟨rfl, pR_B _ (by decide)⟩ | exact ⟨rfl, uR_B (by decide) (by decide)⟩ | exact ⟨rfl, gR_B (by decide) (by decide) (by decide)⟩), Or.inr rfl, Or.inr trivial, Or.inr trivial, Or.inr trivial, Or.inr trivial, Or.inr trivial, Or.inr trivial, Or.inr trivial, Or.inr trivial, Or.inr trivial, Or.inr trivial, Or.inr trivial, Or.inr trivial, Or.inr trivial, Or.inr trivial, Or.inr trivial, Or.inr trivial, Or.inr trivial, Or.inr trivial, Or.inr trivial, Or.inr trivial, Or.inr rfl, Or.inr trivial, Or.inl rfl, Or.inl rfl, trivial⟩, rfl, rfl, rfl, Nat.le_of_ble_eq_true rfl⟩ rfl zC5 rfl rfl dX1_glued_258 (fun r_258 w_258 hp => ?_) (fun _ _ h => h.elim)
                        obtain ⟨rfl, rfl⟩ := hp
                        refine z_weq (w' := [zPl _ _, zO _ [zr _ _, zr _ _, zr _ _, zr _ _, zr _ _, zi _, zi _, zr _ _, zr _ _], zH, zH, zH, zH, zH, zH, zH, zH, zH, zH, zH, zH, zH, zH, zH, zH, zH, zH, zH, zH, zO _ [zi _, zi _, zr _ _], zAi 0 24 _, zO _ [zi _, zi _, zr _ _], zAi 0 24 _]) rfl ?_
                        refine z_seq (S' := []) rfl ?_
                        refine z_loc _ ?_ (back _ (by omega) (if_pos (glT2 c_131 c_249)).symm)
                        exact ⟨rfl, rfl, rfl, rfl, rfl, rfl, rfl, rfl, rfl, rfl, trivial⟩
                · refine z_iconstB F true dX1_glued_211 rfl ?_
                  refine z_goto F (tgt := 216) dX1_glued_212 (by decide) ?_
                  refine z_istore F dX1_glued_216 (Nat.le_of_ble_eq_true rfl) ?_
                  refine z_leq (L' := [_, _, _, _, _, _, _, _, _, _, _, _, _]) rfl ?_
                  refine z_iload F dX1_glued_218 rfl ?_
                  refine z_if_neB F (tgt := 252) dX1_glued_220 (by decide) (fun c_220 => ?_) (fun c_220 => ?_)
                  · refine z_aload F dX1_glued_252 rfl ?_
                    refine z_iload F dX1_glued_254 rfl ?_
                    refine z_iload F dX1_glued_256 rfl ?_
                    refine z_callV F (c_setj (nI (nx * nx)) (nI (d1 + d1)) _ k l (by omega) (by omega)) 2 rfl (lw_V q516 q418 q419 q116 q420) (by decide +kernel) ⟨Nat.le_of_ble_eq_true rfl, Nat.le_of_ble_eq_true rfl⟩ ⟨by omega, by omega⟩ [0, 24, 25] 26 ⟨rfl, rfl, rfl, ⟨Or.inl rfl, Or.inr rfl, Or.inr rfl, trivial⟩⟩ (fun h => nomatch h) (Nat.le_of_ble_eq_true rfl) ⟨⟨Or.inr (by first | exact ⟨rfl, pR_B _ (by decide)⟩ | exact ⟨rfl, uR_B (by decide) (by decide)⟩ | exact ⟨rfl, gR_B (by decide) (by decide) (by decide)⟩), Or.inr rfl, Or.inr trivial, Or.inr trivial, Or.inr trivial, Or.inr trivial, Or.inr trivial, Or.inr trivial, Or.inr trivial, Or.inr trivial, Or.inr trivial, Or.inr trivial, Or.inr trivial, Or.inr trivial, Or.inr trivial, Or.inr trivial, Or.inr trivial, Or.inr trivial, Or.inr trivial, Or.inr trivial, Or.inr trivial, Or.inr trivial, Or.inr rfl, Or.inr trivial, Or.inl rfl, Or.inl rfl, trivial⟩, rfl, rfl, rfl, Nat.le_of_ble_eq_true rfl⟩ rfl zC5 rfl rfl dX1_glued_258 (fun r_258 w_258 hp => ?_) (fun _ _ h => h.elim)
                    obtain ⟨rfl, rfl⟩ := hp
                    refine z_weq (w' := [zPl _ _, zO _ [zr _ _, zr _ _, zr _ _, zr _ _, zr _ _, zi _, zi _, zr _ _, zr _ _], zH, zH, zH, zH, zH, zH, zH, zH, zH, zH, zH, zH, zH, zH, zH, zH, zH, zH, zH, zH, zO _ [zi _, zi _, zr _ _], zAi 0 24 _, zO _ [zi _, zi _, zr _ _], zAi 0 24 _]) rfl ?_
                    refine z_seq (S' := []) rfl ?_
                    refine z_loc _ ?_ (back _ (by omega) (if_pos (glT1 c_157 (by first | exact Or.inl c_173 | exact Or.inr c_184) c_208)).symm)
                    exact ⟨rfl, rfl, rfl, rfl, rfl, rfl, rfl, rfl, rfl, rfl, trivial⟩
                  · cases c_220
              · refine z_iload F dX1_glued_176 rfl ?_
                refine z_aload F dX1_glued_178 rfl ?_
                refine z_getN F zC5 (f := 0) rfl (Nat.le_of_ble_eq_true rfl) q245 rfl dX1_glued_180 ?_
                refine z_idivN F (by omega) (by omega) (by omega) dX1_glued_183 ?_
                refine z_if_neN F (by omega) (tgt := 215) dX1_glued_184 (by decide) (fun c_184 => ?_) (fun c_184 => ?_)
                · refine z_iconstB F false dX1_glued_215 rfl ?_
                  refine z_istore F dX1_glued_216 (Nat.le_of_ble_eq_true rfl) ?_
                  refine z_leq (L' := [_, _, _, _, _, _, _, _, _, _, _, _, _]) rfl ?_
                  refine z_iload F dX1_glued_218 rfl ?_
                  refine z_if_neB F (tgt := 252) dX1_glued_220 (by decide) (fun c_220 => ?_) (fun c_220 => ?_)
                  · cases c_220
                  · refine z_iload F dX1_glued_223 rfl ?_
                    refine z_if_eqB F (tgt := 261) dX1_glued_225 (by decide) (fun c_225 => ?_) (fun c_225 => ?_)
                    · cases c_225
                    · refine z_aload F dX1_glued_228 rfl ?_
                      refine z_iload F dX1_glued_230 rfl ?_
                      refine z_aload F dX1_glued_232 rfl ?_
                      refine z_getN F zC5 (f := 0) rfl (Nat.le_of_ble_eq_true rfl) q245 rfl dX1_glued_234 ?_
                      refine z_idivN F (by omega) (by omega) (by omega) dX1_glued_237 ?_
                      refine z_iload F dX1_glued_238 rfl ?_
                      refine z_aload F dX1_glued_240 rfl ?_
                      refine z_getN F zC5 (f := 0) rfl (Nat.le_of_ble_eq_true rfl) q245 rfl dX1_glued_242 ?_
                      refine z_idivN F (by omega) (by omega) (by omega) dX1_glued_245 ?_
                      refine z_callV F (c_has (nI nx) (nI d1) fp (k / nx) (l / nx) (by omega) (by omega)) 2 rfl (lw_V q524 q508 q509 q116 q510) (by decide +kernel) ⟨Nat.le_of_ble_eq_true rfl, Nat.le_of_ble_eq_true rfl⟩ ⟨by omega, by omega⟩ [0, 22, 23] 26 ⟨rfl, rfl, rfl, ⟨Or.inl rfl, Or.inr rfl, Or.inr rfl, trivial⟩⟩ (fun h => nomatch h) (Nat.le_of_ble_eq_true rfl) ⟨⟨Or.inr (by first | exact ⟨rfl, pR_B _ (by decide)⟩ | exact ⟨rfl, uR_B (by decide) (by decide)⟩ | exact ⟨rfl, gR_B (by decide) (by decide) (by decide)⟩), Or.inr rfl, Or.inr trivial, Or.inr trivial, Or.inr trivial, Or.inr trivial, Or.inr trivial, Or.inr trivial, Or.inr trivial, Or.inr trivial, Or.inr trivial, Or.inr trivial, Or.inr trivial, Or.inr trivial, Or.inr trivial, Or.inr trivial, Or.inr trivial, Or.inr trivial, Or.inr trivial, Or.inr trivial, Or.inr trivial, Or.inr trivial, Or.inl rfl, Or.inl rfl, Or.inr rfl, Or.inr trivial, trivial⟩, rfl, rfl, rfl, Nat.le_of_ble_eq_true rfl⟩ rfl zC5 rfl rfl dX1_glued_246 (fun r_246 w_246 hp => ?_) (fun _ _ h => h.elim)
                      obtain ⟨rfl, rfl⟩ := hp
                      refine z_weq (w' := [zPl _ _, zO _ [zr _ _, zr _ _, zr _ _, zr _ _, zr _ _, zi _, zi _, zr _ _, zr _ _], zH, zH, zH, zH, zH, zH, zH, zH, zH, zH, zH, zH, zH, zH, zH, zH, zH, zH, zH, zH, zO _ [zi _, zi _, zr _ _], zAi 0 24 _, zO _ [zi _, zi _, zr _ _], zAi 0 24 _]) rfl ?_
                      refine z_seq (S' := zi _ :: _) rfl ?_
                      refine z_if_eqB F (tgt := 261) dX1_glued_249 (by decide) (fun c_249 => ?_) (fun c_249 => ?_)
                      · refine z_loc _ ?_ (back _ (by omega) (if_neg (glF (by first | exact (fun z => c_157 z.1) | exact (fun z => z.2.1.elim c_173 c_184) | exact (fun z => by rw [z.2.2] at c_208; cases c_208)) (fun z => by rw [z.2] at c_249; cases c_249))).symm)
                        exact ⟨rfl, rfl, rfl, rfl, rfl, rfl, rfl, rfl, rfl, rfl, trivial⟩
                      · refine z_aload F dX1_glued_252 rfl ?_
                        refine z_iload F dX1_glued_254 rfl ?_
                        refine z_iload F dX1_glued_256 rfl ?_
                        refine z_callV F (c_setj (nI (nx * nx)) (nI (d1 + d1)) _ k l (by omega) (by omega)) 2 rfl (lw_V q516 q418 q419 q116 q420) (by decide +kernel) ⟨Nat.le_of_ble_eq_true rfl, Nat.le_of_ble_eq_true rfl⟩ ⟨by omega, by omega⟩ [0, 24, 25] 26 ⟨rfl, rfl, rfl, ⟨Or.inl rfl, Or.inr rfl, Or.inr rfl, trivial⟩⟩ (fun h => nomatch h) (Nat.le_of_ble_eq_true rfl) ⟨⟨Or.inr (by first | exact ⟨rfl, pR_B _ (by decide)⟩ | exact ⟨rfl, uR_B (by decide) (by decide)⟩ | exact ⟨rfl, gR_B (by decide) (by decide) (by decide)⟩), Or.inr rfl, Or.inr trivial, Or.inr trivial, Or.inr trivial, Or.inr trivial, Or.inr trivial, Or.inr trivial, Or.inr trivial, Or.inr trivial, Or.inr trivial, Or.inr trivial, Or.inr trivial, Or.inr trivial, Or.inr trivial, Or.inr trivial, Or.inr trivial, Or.inr trivial, Or.inr trivial, Or.inr trivial, Or.inr trivial, Or.inr trivial, Or.inr rfl, Or.inr trivial, Or.inl rfl, Or.inl rfl, trivial⟩, rfl, rfl, rfl, Nat.le_of_ble_eq_true rfl⟩ rfl zC5 rfl rfl dX1_glued_258 (fun r_258 w_258 hp => ?_) (fun _ _ h => h.elim)
                        obtain ⟨rfl, rfl⟩ := hp
                        refine z_weq (w' := [zPl _ _, zO _ [zr _ _, zr _ _, zr _ _, zr _ _, zr _ _, zi _, zi _, zr _ _, zr _ _], zH, zH, zH, zH, zH, zH, zH, zH, zH, zH, zH, zH, zH, zH, zH, zH, zH, zH, zH, zH, zO _ [zi _, zi _, zr _ _], zAi 0 24 _, zO _ [zi _, zi _, zr _ _], zAi 0 24 _]) rfl ?_
                        refine z_seq (S' := []) rfl ?_
                        refine z_loc _ ?_ (back _ (by omega) (if_pos (glT2 c_131 c_249)).symm)
                        exact ⟨rfl, rfl, rfl, rfl, rfl, rfl, rfl, rfl, rfl, rfl, trivial⟩
                · refine z_aload F dX1_glued_187 rfl ?_
                  refine z_iload F dX1_glued_189 rfl ?_
                  refine z_aload F dX1_glued_191 rfl ?_
                  refine z_getN F zC5 (f := 0) rfl (Nat.le_of_ble_eq_true rfl) q245 rfl dX1_glued_193 ?_
                  refine z_iremN F (by omega) (by omega) (by omega) dX1_glued_196 ?_
                  refine z_iload F dX1_glued_197 rfl ?_
                  refine z_aload F dX1_glued_199 rfl ?_
                  refine z_getN F zC5 (f := 0) rfl (Nat.le_of_ble_eq_true rfl) q245 rfl dX1_glued_201 ?_
                  refine z_iremN F (by omega) (by omega) (by omega) dX1_glued_204 ?_
                  refine z_callV F (c_has (nI nx) (nI d1) fp (k % nx) (l % nx) (by omega) (by omega)) 2 rfl (lw_V q524 q508 q509 q116 q510) (by decide +kernel) ⟨Nat.le_of_ble_eq_true rfl, Nat.le_of_ble_eq_true rfl⟩ ⟨by omega, by omega⟩ [0, 22, 23] 26 ⟨rfl, rfl, rfl, ⟨Or.inl rfl, Or.inr rfl, Or.inr rfl, trivial⟩⟩ (fun h => nomatch h) (Nat.le_of_ble_eq_true rfl) ⟨⟨Or.inr (by first | exact ⟨rfl, pR_B _ (by decide)⟩ | exact ⟨rfl, uR_B (by decide) (by decide)⟩ | exact ⟨rfl, gR_B (by decide) (by decide) (by decide)⟩), Or.inr rfl, Or.inr trivial, Or.inr trivial, Or.inr trivial, Or.inr trivial, Or.inr trivial, Or.inr trivial, Or.inr trivial, Or.inr trivial, Or.inr trivial, Or.inr trivial, Or.inr trivial, Or.inr trivial, Or.inr trivial, Or.inr trivial, Or.inr trivial, Or.inr trivial, Or.inr trivial, Or.inr trivial, Or.inr trivial, Or.inr trivial, Or.inl rfl, Or.inl rfl, Or.inr rfl, Or.inr trivial, trivial⟩, rfl, rfl, rfl, Nat.le_of_ble_eq_true rfl⟩ rfl zC5 rfl rfl dX1_glued_205 (fun r_205 w_205 hp => ?_) (fun _ _ h => h.elim)
                  obtain ⟨rfl, rfl⟩ := hp
                  refine z_weq (w' := [zPl _ _, zO _ [zr _ _, zr _ _, zr _ _, zr _ _, zr _ _, zi _, zi _, zr _ _, zr _ _], zH, zH, zH, zH, zH, zH, zH, zH, zH, zH, zH, zH, zH, zH, zH, zH, zH, zH, zH, zH, zO _ [zi _, zi _, zr _ _], zAi 0 24 _, zO _ [zi _, zi _, zr _ _], zAi 0 24 _]) rfl ?_
                  refine z_seq (S' := zi _ :: _) rfl ?_
                  refine z_if_eqB F (tgt := 215) dX1_glued_208 (by decide) (fun c_208 => ?_) (fun c_208 => ?_)
                  · refine z_iconstB F false dX1_glued_215 rfl ?_
                    refine z_istore F dX1_glued_216 (Nat.le_of_ble_eq_true rfl) ?_
                    refine z_leq (L' := [_, _, _, _, _, _, _, _, _, _, _, _, _]) rfl ?_
                    refine z_iload F dX1_glued_218 rfl ?_
                    refine z_if_neB F (tgt := 252) dX1_glued_220 (by decide) (fun c_220 => ?_) (fun c_220 => ?_)
                    · cases c_220
                    · refine z_iload F dX1_glued_223 rfl ?_
                      refine z_if_eqB F (tgt := 261) dX1_glued_225 (by decide) (fun c_225 => ?_) (fun c_225 => ?_)
                      · cases c_225
                      · refine z_aload F dX1_glued_228 rfl ?_
                        refine z_iload F dX1_glued_230 rfl ?_
                        refine z_aload F dX1_glued_232 rfl ?_
                        refine z_getN F zC5 (f := 0) rfl (Nat.le_of_ble_eq_true rfl) q245 rfl dX1_glued_234 ?_
                        refine z_idivN F (by omega) (by omega) (by omega) dX1_glued_237 ?_
                        refine z_iload F dX1_glued_238 rfl ?_
                        refine z_aload F dX1_glued_240 rfl ?_
                        refine z_getN F zC5 (f := 0) rfl (Nat.le_of_ble_eq_true rfl) q245 rfl dX1_glued_242 ?_
                        refine z_idivN F (by omega) (by omega) (by omega) dX1_glued_245 ?_
                        refine z_callV F (c_has (nI nx) (nI d1) fp (k / nx) (l / nx) (by omega) (by omega)) 2 rfl (lw_V q524 q508 q509 q116 q510) (by decide +kernel) ⟨Nat.le_of_ble_eq_true rfl, Nat.le_of_ble_eq_true rfl⟩ ⟨by omega, by omega⟩ [0, 22, 23] 26 ⟨rfl, rfl, rfl, ⟨Or.inl rfl, Or.inr rfl, Or.inr rfl, trivial⟩⟩ (fun h => nomatch h) (Nat.le_of_ble_eq_true rfl) ⟨⟨Or.inr (by first | exact ⟨rfl, pR_B _ (by decide)⟩ | exact ⟨rfl, uR_B (by decide) (by decide)⟩ | exact ⟨rfl, gR_B (by decide) (by decide) (by decide)⟩), Or.inr rfl, Or.inr trivial, Or.inr trivial, Or.inr trivial, Or.inr trivial, Or.inr trivial, Or.inr trivial, Or.inr trivial, Or.inr trivial, Or.inr trivial, Or.inr trivial, Or.inr trivial, Or.inr trivial, Or.inr trivial, Or.inr trivial, Or.inr trivial, Or.inr trivial, Or.inr trivial, Or.inr trivial, Or.inr trivial, Or.inr trivial, Or.inl rfl, Or.inl rfl, Or.inr rfl, Or.inr trivial, trivial⟩, rfl, rfl, rfl, Nat.le_of_ble_eq_true rfl⟩ rfl zC5 rfl rfl dX1_glued_246 (fun r_246 w_246 hp => ?_) (fun _ _ h => h.elim)
                        obtain ⟨rfl, rfl⟩ := hp
                        refine z_weq (w' := [zPl _ _, zO _ [zr _ _, zr _ _, zr _ _, zr _ _, zr _ _, zi _, zi _, zr _ _, zr _ _], zH, zH, zH, zH, zH, zH, zH, zH, zH, zH, zH, zH, zH, zH, zH, zH, zH, zH, zH, zH, zO _ [zi _, zi _, zr _ _], zAi 0 24 _, zO _ [zi _, zi _, zr _ _], zAi 0 24 _]) rfl ?_
                        refine z_seq (S' := zi _ :: _) rfl ?_
                        refine z_if_eqB F (tgt := 261) dX1_glued_249 (by decide) (fun c_249 => ?_) (fun c_249 => ?_)
                        · refine z_loc _ ?_ (back _ (by omega) (if_neg (glF (by first | exact (fun z => c_157 z.1) | exact (fun z => z.2.1.elim c_173 c_184) | exact (fun z => by rw [z.2.2] at c_208; cases c_208)) (fun z => by rw [z.2] at c_249; cases c_249))).symm)
                          exact ⟨rfl, rfl, rfl, rfl, rfl, rfl, rfl, rfl, rfl, rfl, trivial⟩
                        · refine z_aload F dX1_glued_252 rfl ?_
                          refine z_iload F dX1_glued_254 rfl ?_
                          refine z_iload F dX1_glued_256 rfl ?_
                          refine z_callV F (c_setj (nI (nx * nx)) (nI (d1 + d1)) _ k l (by omega) (by omega)) 2 rfl (lw_V q516 q418 q419 q116 q420) (by decide +kernel) ⟨Nat.le_of_ble_eq_true rfl, Nat.le_of_ble_eq_true rfl⟩ ⟨by omega, by omega⟩ [0, 24, 25] 26 ⟨rfl, rfl, rfl, ⟨Or.inl rfl, Or.inr rfl, Or.inr rfl, trivial⟩⟩ (fun h => nomatch h) (Nat.le_of_ble_eq_true rfl) ⟨⟨Or.inr (by first | exact ⟨rfl, pR_B _ (by decide)⟩ | exact ⟨rfl, uR_B (by decide) (by decide)⟩ | exact ⟨rfl, gR_B (by decide) (by decide) (by decide)⟩), Or.inr rfl, Or.inr trivial, Or.inr trivial, Or.inr trivial, Or.inr trivial, Or.inr trivial, Or.inr trivial, Or.inr trivial, Or.inr trivial, Or.inr trivial, Or.inr trivial, Or.inr trivial, Or.inr trivial, Or.inr trivial, Or.inr trivial, Or.inr trivial, Or.inr trivial, Or.inr trivial, Or.inr trivial, Or.inr trivial, Or.inr trivial, Or.inr rfl, Or.inr trivial, Or.inl rfl, Or.inl rfl, trivial⟩, rfl, rfl, rfl, Nat.le_of_ble_eq_true rfl⟩ rfl zC5 rfl rfl dX1_glued_258 (fun r_258 w_258 hp => ?_) (fun _ _ h => h.elim)
                          obtain ⟨rfl, rfl⟩ := hp
                          refine z_weq (w' := [zPl _ _, zO _ [zr _ _, zr _ _, zr _ _, zr _ _, zr _ _, zi _, zi _, zr _ _, zr _ _], zH, zH, zH, zH, zH, zH, zH, zH, zH, zH, zH, zH, zH, zH, zH, zH, zH, zH, zH, zH, zO _ [zi _, zi _, zr _ _], zAi 0 24 _, zO _ [zi _, zi _, zr _ _], zAi 0 24 _]) rfl ?_
                          refine z_seq (S' := []) rfl ?_
                          refine z_loc _ ?_ (back _ (by omega) (if_pos (glT2 c_131 c_249)).symm)
                          exact ⟨rfl, rfl, rfl, rfl, rfl, rfl, rfl, rfl, rfl, rfl, trivial⟩
                  · refine z_iconstB F true dX1_glued_211 rfl ?_
                    refine z_goto F (tgt := 216) dX1_glued_212 (by decide) ?_
                    refine z_istore F dX1_glued_216 (Nat.le_of_ble_eq_true rfl) ?_
                    refine z_leq (L' := [_, _, _, _, _, _, _, _, _, _, _, _, _]) rfl ?_
                    refine z_iload F dX1_glued_218 rfl ?_
                    refine z_if_neB F (tgt := 252) dX1_glued_220 (by decide) (fun c_220 => ?_) (fun c_220 => ?_)
                    · refine z_aload F dX1_glued_252 rfl ?_
                      refine z_iload F dX1_glued_254 rfl ?_
                      refine z_iload F dX1_glued_256 rfl ?_
                      refine z_callV F (c_setj (nI (nx * nx)) (nI (d1 + d1)) _ k l (by omega) (by omega)) 2 rfl (lw_V q516 q418 q419 q116 q420) (by decide +kernel) ⟨Nat.le_of_ble_eq_true rfl, Nat.le_of_ble_eq_true rfl⟩ ⟨by omega, by omega⟩ [0, 24, 25] 26 ⟨rfl, rfl, rfl, ⟨Or.inl rfl, Or.inr rfl, Or.inr rfl, trivial⟩⟩ (fun h => nomatch h) (Nat.le_of_ble_eq_true rfl) ⟨⟨Or.inr (by first | exact ⟨rfl, pR_B _ (by decide)⟩ | exact ⟨rfl, uR_B (by decide) (by decide)⟩ | exact ⟨rfl, gR_B (by decide) (by decide) (by decide)⟩), Or.inr rfl, Or.inr trivial, Or.inr trivial, Or.inr trivial, Or.inr trivial, Or.inr trivial, Or.inr trivial, Or.inr trivial, Or.inr trivial, Or.inr trivial, Or.inr trivial, Or.inr trivial, Or.inr trivial, Or.inr trivial, Or.inr trivial, Or.inr trivial, Or.inr trivial, Or.inr trivial, Or.inr trivial, Or.inr trivial, Or.inr trivial, Or.inr rfl, Or.inr trivial, Or.inl rfl, Or.inl rfl, trivial⟩, rfl, rfl, rfl, Nat.le_of_ble_eq_true rfl⟩ rfl zC5 rfl rfl dX1_glued_258 (fun r_258 w_258 hp => ?_) (fun _ _ h => h.elim)
                      obtain ⟨rfl, rfl⟩ := hp
                      refine z_weq (w' := [zPl _ _, zO _ [zr _ _, zr _ _, zr _ _, zr _ _, zr _ _, zi _, zi _, zr _ _, zr _ _], zH, zH, zH, zH, zH, zH, zH, zH, zH, zH, zH, zH, zH, zH, zH, zH, zH, zH, zH, zH, zO _ [zi _, zi _, zr _ _], zAi 0 24 _, zO _ [zi _, zi _, zr _ _], zAi 0 24 _]) rfl ?_
                      refine z_seq (S' := []) rfl ?_
                      refine z_loc _ ?_ (back _ (by omega) (if_pos (glT1 c_157 (by first | exact Or.inl c_173 | exact Or.inr c_184) c_208)).symm)
                      exact ⟨rfl, rfl, rfl, rfl, rfl, rfl, rfl, rfl, rfl, rfl, trivial⟩
                    · cases c_220
  have rows : ∀ (k0 n0 : Nat), k0 ≤ 10 → n0 ≤ 80 → (Z X [some (zr 1 0), some (zi (nI j)), some (zi (nI kd)), some (zi (nI x)), some (zi (nI x)), some (zr 22 0), some (zr 22 0), some (zr 24 0), none, none, none, none, none] [] [zPl (zput (pR P) x (zr 22 0)) (zput P x none), xO t fp0, zH, zH, zH, zH, zH, zH, zH, zH, zH, zH, zH, zH, zH, zH, zH, zH, zH, zH, zH, zH, eNet 23 (nI nx) (nI d1), zAi 0 24 fp, eNet 25 (nI (nx * nx)) (nI (d1 + d1)), zAi 0 24 (cgk kd nx fp fp (nx * nx))] k0 n0 273) → ∀ (m k : Nat), nx * nx - k < m → k ≤ nx * nx → Z X [some (zr 1 0), some (zi (nI j)), some (zi (nI kd)), some (zi (nI x)), some (zi (nI x)), some (zr 22 0), some (zr 22 0), some (zr 24 0), some (zi (nI k)), none, none, none, none] [] [zPl (zput (pR P) x (zr 22 0)) (zput P x none), xO t fp0, zH, zH, zH, zH, zH, zH, zH, zH, zH, zH, zH, zH, zH, zH, zH, zH, zH, zH, zH, zH, eNet 23 (nI nx) (nI d1), zAi 0 24 fp, eNet 25 (nI (nx * nx)) (nI (d1 + d1)), zAi 0 24 (cgk kd nx fp fp k)] k0 n0 95 := by
    intro k0 n0 hk0 hn0 kk m
    induction m with
    | zero => intro k hm; omega
    | succ m ih =>
      intro k hm hk
      refine z_iload F dX1_glued_95 rfl ?_
      refine z_aload F dX1_glued_97 rfl ?_
      refine z_getN F zC5 (f := 0) rfl (Nat.le_of_ble_eq_true rfl) q245 rfl dX1_glued_99 ?_
      refine z_icmp_geN F (by omega) (by omega) (tgt := 273) dX1_glued_102 (by decide) (fun c_102 => ?_) (fun c_102 => ?_)
      · rw [show k = nx * nx by omega]
        refine z_loc _ ?_ kk
        exact ⟨rfl, rfl, rfl, rfl, rfl, rfl, rfl, rfl, trivial⟩
      · refine z_iconst F (nI 0) dX1_glued_105 rfl ?_
        refine z_istore F dX1_glued_106 (Nat.le_of_ble_eq_true rfl) ?_
        refine z_leq (L' := [_, _, _, _, _, _, _, _, _, _, _, _, _]) rfl ?_
        exact inner k k0 n0 (by omega) hk0 hn0 (ih (k + 1) (by omega) (by omega)) (k + 1) 0 (by omega) (by omega)
  have fin : ∀ (k0 n0 : Nat), k0 ≤ 10 → n0 ≤ 80 → (Z X [some (zr 1 0), some (zi (nI j)), some (zi (nI kd)), some (zi (nI x)), some (zi (nI x)), some (zr 22 0), some (zr 22 0), some (zr 24 0), none, none, none, none, none] [] [zPl (zput (pR P) x (zr 22 0)) (zput P x none), xO t fp0, zH, zH, zH, zH, zH, zH, zH, zH, zH, zH, zH, zH, zH, zH, zH, zH, zH, zH, zH, zH, eNet 23 (nI nx) (nI d1), zAi 0 24 fp, eNet 25 (nI (nx * nx)) (nI (d1 + d1)), zAi 0 24 (cgk kd nx fp fp (nx * nx))] k0 n0 273) := by
    intro k0 n0 hk0 hn0
    refine z_aload_n F dX1_glued_273 rfl ?_
    refine z_unfocusH F rfl x 22 23 hx zput_self rfl rfl (Nat.le_of_ble_eq_true rfl) (Nat.le_of_ble_eq_true rfl) [zO _ [zr _ _, zr _ _, zr _ _, zr _ _, zr _ _, zi _, zi _, zr _ _, zr _ _], zH, zH, zH, zH, zH, zH, zH, zH, zH, zH, zH, zH, zH, zH, zH, zH, zH, zH, zH, zH, zH, zH, zO _ [zi _, zi _, zr _ _], zAi 0 24 _] rfl ⟨Nat.le_of_ble_eq_true rfl, Nat.le_of_ble_eq_true rfl⟩ ⟨rfl, trivial, trivial, trivial, trivial, trivial, trivial, trivial, trivial, trivial, trivial, trivial, trivial, trivial, trivial, trivial, trivial, trivial, trivial, trivial, trivial, trivial, trivial, rfl, trivial, trivial⟩ uOV rfl rfl ?_
    refine z_weq (w' := zPl (pR P) P :: _) (congrArg (fun z => z :: _) (uPl3 hPx)) ?_
    refine z_get F zC1 (f := 0) rfl (Nat.le_of_ble_eq_true rfl) q313 rfl dX1_glued_274 ?_
    refine z_iload_n F dX1_glued_277 rfl ?_
    refine z_aload F dX1_glued_278 rfl ?_
    refine z_aastP F (by omega) rfl dX1_glued_280 ?_
    refine z_weq (w' := [_, _, _, _, _, _, _, _, _, _, _, _, _, _, _, _, _, _, _, _, _, _, _, _, _, _]) rfl ?_
    refine z_loc [some _, some _, some _, some _, some _, none, none, none, none, none, none, none, none] ⟨rfl, rfl, rfl, rfl, rfl, trivial⟩ ?_
    refine z_unfocus F rfl j 24 25 22 hj zput_self rfl rfl (Nat.le_of_ble_eq_true rfl) (Nat.le_of_ble_eq_true rfl) (Nat.le_of_ble_eq_true rfl) (Nat.le_of_ble_eq_true rfl) [zO _ [zr _ _, zr _ _, zr _ _, zr _ _, zr _ _, zi _, zi _, zr _ _, zr _ _], zH, zH, zH, zH, zH, zH, zH, zH, zH, zH, zH, zH, zH, zH, zH, zH, zH, zH, zH, zH] rfl ⟨rfl, trivial, trivial, trivial, trivial, trivial, trivial, trivial, trivial, trivial, trivial, trivial, trivial, trivial, trivial, trivial, trivial, trivial, trivial, trivial, trivial, trivial⟩ uOK rfl rfl ?_
    refine z_weq (w' := zPl (pR (zput P j (some _))) (zput P j (some _)) :: _) (congrArg (fun z => z :: _) uPl1) ?_
    refine z_iconstB F true dX1_glued_281 rfl ?_
    exact z_zret F E rfl rfl dX1_glued_282 (by omega) (by omega) (⟨rfl, rfl⟩)
  refine z_aload_n F dX1_glued_0 rfl ?_
  refine z_iload_n F dX1_glued_1 rfl ?_
  refine z_callV F (c_netAt_ok P t fp0 x hx hPx) 1 rfl (lw_V q429 q431 qs0 q109 q432) (by decide +kernel) ⟨Nat.le_of_ble_eq_true rfl, Nat.le_of_ble_eq_true rfl⟩ ⟨by omega, by omega⟩ [0, 1, 2, 3, 4, 5, 6, 7, 8, 9, 10, 11, 12, 13, 14, 15, 16, 17, 18, 19, 20, 21] 22 ⟨rfl, rfl, rfl, ⟨Or.inr (congrArg some (zrnP rfl).symm), Or.inr rfl, Or.inl rfl, Or.inl rfl, Or.inl rfl, Or.inl rfl, Or.inl rfl, Or.inl rfl, Or.inl rfl, Or.inl rfl, Or.inl rfl, Or.inl rfl, Or.inl rfl, Or.inl rfl, Or.inl rfl, Or.inl rfl, Or.inl rfl, Or.inl rfl, Or.inl rfl, Or.inl rfl, Or.inl rfl, Or.inl rfl, trivial⟩⟩ (fun _ => rfl) (Nat.le_of_ble_eq_true rfl) ⟨⟨Or.inl rfl, Or.inl rfl, Or.inr trivial, Or.inr trivial, Or.inr trivial, Or.inr trivial, Or.inr trivial, Or.inr trivial, Or.inr trivial, Or.inr trivial, Or.inr trivial, Or.inr trivial, Or.inr trivial, Or.inr trivial, Or.inr trivial, Or.inr trivial, Or.inr trivial, Or.inr trivial, Or.inr trivial, Or.inr trivial, Or.inr trivial, Or.inr trivial, trivial⟩, rfl, rfl, rfl, Nat.le_of_ble_eq_true rfl⟩ rfl zC1 rfl rfl dX1_glued_2 (fun r_2 w_2 hp => ?_) (fun _ _ h => h.elim)
  obtain ⟨rfl, rfl⟩ := hp
  refine z_weq (w' := zPl (pR _) _ :: _) (congrArg (fun z => z :: _) (zrnP rfl)) ?_
  refine z_weq (w' := [zPl _ _, zO _ [zr _ _, zr _ _, zr _ _, zr _ _, zr _ _, zi _, zi _, zr _ _, zr _ _], zH, zH, zH, zH, zH, zH, zH, zH, zH, zH, zH, zH, zH, zH, zH, zH, zH, zH, zH, zH]) rfl ?_
  refine z_seq (S' := zr _ _ :: _) rfl ?_
  refine z_astore F dX1_glued_5 (Nat.le_of_ble_eq_true rfl) ?_
  refine z_leq (L' := [_, _, _, _, _, _, _, _, _, _, _, _, _]) rfl ?_
  refine z_foc F x hx hPx (N := 22) (M := 23) (L' := [_, _, _, _, _, some (zr 22 0), _, _, _, _, _, _, _]) (S' := []) rfl rfl (Nat.le_of_ble_eq_true rfl) ⟨rfl, trivial, trivial, trivial, trivial, trivial, trivial, trivial, trivial, trivial, trivial, trivial, trivial, trivial, trivial, trivial, trivial, trivial, trivial, trivial, trivial, trivial⟩ ⟨Or.inl rfl, Or.inl rfl, Or.inl rfl, Or.inl rfl, Or.inl rfl, Or.inr ⟨rfl, rfl⟩, Or.inl rfl, Or.inl rfl, Or.inl rfl, Or.inl rfl, Or.inl rfl, Or.inl rfl, Or.inl rfl, trivial⟩ rfl trivial rfl ?_
  refine z_weq (w' := [zPl _ _, zO _ [zr _ _, zr _ _, zr _ _, zr _ _, zr _ _, zi _, zi _, zr _ _, zr _ _], zH, zH, zH, zH, zH, zH, zH, zH, zH, zH, zH, zH, zH, zH, zH, zH, zH, zH, zH, zH, zO _ [zi _, zi _, zr _ _], zAi 0 24 _]) rfl ?_
  refine z_aload_n F dX1_glued_7 rfl ?_
  refine z_iload F dX1_glued_8 rfl ?_
  refine z_callV F (c_netAt2 P t fp0 x x 22 0 hx (show zput (pR P) x (zr 22 0) x = _ by unfold zput; rw [if_pos rfl])) 1 rfl (lw_V q429 q431 qs0 q109 q432) (by decide +kernel) ⟨Nat.le_of_ble_eq_true rfl, Nat.le_of_ble_eq_true rfl⟩ ⟨by omega, by omega⟩ [0, 1, 2, 3, 4, 5, 6, 7, 8, 9, 10, 11, 12, 13, 14, 15, 16, 17, 18, 19, 20, 21, 22, 23] 24 ⟨rfl, rfl, rfl, ⟨Or.inr (congrArg some (zrnU rfl rfl).symm), Or.inr rfl, Or.inl rfl, Or.inl rfl, Or.inl rfl, Or.inl rfl, Or.inl rfl, Or.inl rfl, Or.inl rfl, Or.inl rfl, Or.inl rfl, Or.inl rfl, Or.inl rfl, Or.inl rfl, Or.inl rfl, Or.inl rfl, Or.inl rfl, Or.inl rfl, Or.inl rfl, Or.inl rfl, Or.inl rfl, Or.inl rfl, Or.inl rfl, Or.inl rfl, trivial⟩⟩ (fun _ => rfl) (Nat.le_of_ble_eq_true rfl) ⟨⟨Or.inl rfl, Or.inl rfl, Or.inr trivial, Or.inr trivial, Or.inr trivial, Or.inr trivial, Or.inr trivial, Or.inr trivial, Or.inr trivial, Or.inr trivial, Or.inr trivial, Or.inr trivial, Or.inr trivial, Or.inr trivial, Or.inr trivial, Or.inr trivial, Or.inr trivial, Or.inr trivial, Or.inr trivial, Or.inr trivial, Or.inr trivial, Or.inr trivial, Or.inr rfl, Or.inr trivial, trivial⟩, rfl, rfl, rfl, Nat.le_of_ble_eq_true rfl⟩ rfl zC1 rfl rfl dX1_glued_10 (fun r_10 w_10 hp => ?_) (fun _ _ h => h.elim)
  obtain ⟨rfl, rfl⟩ := hp
  refine z_weq (w' := zPl (zput (pR _) _ _) _ :: _) (congrArg (fun z => z :: _) (zrnU rfl rfl)) ?_
  refine z_weq (w' := [zPl _ _, zO _ [zr _ _, zr _ _, zr _ _, zr _ _, zr _ _, zi _, zi _, zr _ _, zr _ _], zH, zH, zH, zH, zH, zH, zH, zH, zH, zH, zH, zH, zH, zH, zH, zH, zH, zH, zH, zH, zO _ [zi _, zi _, zr _ _], zAi 0 24 _]) rfl ?_
  refine z_seq (S' := zr _ _ :: _) rfl ?_
  refine z_astore F dX1_glued_13 (Nat.le_of_ble_eq_true rfl) ?_
  refine z_leq (L' := [_, _, _, _, _, _, _, _, _, _, _, _, _]) rfl ?_
  refine z_iload_n F dX1_glued_15 rfl ?_
  refine z_callS F (c_xSlot (nI j)) 1 rfl (lw_S q346 q347 q109 q348) (by decide +kernel) ⟨Nat.le_of_ble_eq_true rfl, Nat.le_of_ble_eq_true rfl⟩ ⟨by omega, by omega⟩ [0] 24 ⟨rfl, rfl, rfl, ⟨Or.inl rfl, trivial⟩⟩ (fun h => nomatch h) (Nat.le_of_ble_eq_true rfl) ⟨⟨Or.inr (by first | exact ⟨rfl, pR_B _ (by decide)⟩ | exact ⟨rfl, uR_B (by decide) (by decide)⟩ | exact ⟨rfl, gR_B (by decide) (by decide) (by decide)⟩), Or.inr rfl, Or.inr trivial, Or.inr trivial, Or.inr trivial, Or.inr trivial, Or.inr trivial, Or.inr trivial, Or.inr trivial, Or.inr trivial, Or.inr trivial, Or.inr trivial, Or.inr trivial, Or.inr trivial, Or.inr trivial, Or.inr trivial, Or.inr trivial, Or.inr trivial, Or.inr trivial, Or.inr trivial, Or.inr trivial, Or.inr trivial, Or.inr rfl, Or.inr trivial, trivial⟩, rfl, rfl, rfl, Nat.le_of_ble_eq_true rfl⟩ rfl rfl dX1_glued_16 (fun r_16 w_16 hp => ?_) (fun _ _ h => h.elim)
  obtain ⟨rfl, rfl⟩ := hp
  refine z_weq (w' := [zPl _ _, zO _ [zr _ _, zr _ _, zr _ _, zr _ _, zr _ _, zi _, zi _, zr _ _, zr _ _], zH, zH, zH, zH, zH, zH, zH, zH, zH, zH, zH, zH, zH, zH, zH, zH, zH, zH, zH, zH, zO _ [zi _, zi _, zr _ _], zAi 0 24 _]) rfl ?_
  refine z_seq (S' := zi _ :: _) rfl ?_
  refine z_if_eqB F (tgt := 59) dX1_glued_19 (by decide) (fun c_19 => ?_) (fun c_19 => ?_)
  · rw [slB_n hj] at c_19; cases c_19
  · refine z_iload_n F dX1_glued_22 rfl ?_
    refine z_iconst F (nI 0) dX1_glued_23 rfl ?_
    refine z_iconst F (nI 1) dX1_glued_24 rfl ?_
    refine z_callS F (c_in (nI kd) (nI 0) (nI 1)) 3 rfl (lw_S q349 q350 q109 q351) (by decide +kernel) ⟨Nat.le_of_ble_eq_true rfl, Nat.le_of_ble_eq_true rfl⟩ ⟨by omega, by omega⟩ [0] 24 ⟨rfl, rfl, rfl, ⟨Or.inl rfl, trivial⟩⟩ (fun h => nomatch h) (Nat.le_of_ble_eq_true rfl) ⟨⟨Or.inr (by first | exact ⟨rfl, pR_B _ (by decide)⟩ | exact ⟨rfl, uR_B (by decide) (by decide)⟩ | exact ⟨rfl, gR_B (by decide) (by decide) (by decide)⟩), Or.inr rfl, Or.inr trivial, Or.inr trivial, Or.inr trivial, Or.inr trivial, Or.inr trivial, Or.inr trivial, Or.inr trivial, Or.inr trivial, Or.inr trivial, Or.inr trivial, Or.inr trivial, Or.inr trivial, Or.inr trivial, Or.inr trivial, Or.inr trivial, Or.inr trivial, Or.inr trivial, Or.inr trivial, Or.inr trivial, Or.inr trivial, Or.inr rfl, Or.inr trivial, trivial⟩, rfl, rfl, rfl, Nat.le_of_ble_eq_true rfl⟩ rfl rfl dX1_glued_25 (fun r_25 w_25 hp => ?_) (fun _ _ h => h.elim)
    obtain ⟨rfl, rfl⟩ := hp
    refine z_weq (w' := [zPl _ _, zO _ [zr _ _, zr _ _, zr _ _, zr _ _, zr _ _, zi _, zi _, zr _ _, zr _ _], zH, zH, zH, zH, zH, zH, zH, zH, zH, zH, zH, zH, zH, zH, zH, zH, zH, zH, zH, zH, zO _ [zi _, zi _, zr _ _], zAi 0 24 _]) rfl ?_
    refine z_seq (S' := zi _ :: _) rfl ?_
    refine z_if_eqB F (tgt := 59) dX1_glued_28 (by decide) (fun c_28 => ?_) (fun c_28 => ?_)
    · rw [inB_nn (by omega) (by omega) (by omega)] at c_28; cases c_28
    · refine z_aload F dX1_glued_31 rfl ?_
      refine z_getN F zC5 (f := 0) rfl (Nat.le_of_ble_eq_true rfl) q245 rfl dX1_glued_33 ?_
      refine z_aload F dX1_glued_36 rfl ?_
      refine z_getN F zC5 (f := 0) rfl (Nat.le_of_ble_eq_true rfl) q245 rfl dX1_glued_38 ?_
      refine z_imulN F dX1_glued_41 ?_
      refine z_aload F dX1_glued_42 rfl ?_
      refine z_getN F zC5 (f := 1) rfl (Nat.le_of_ble_eq_true rfl) q248 rfl dX1_glued_44 ?_
      refine z_aload F dX1_glued_47 rfl ?_
      refine z_getN F zC5 (f := 1) rfl (Nat.le_of_ble_eq_true rfl) q248 rfl dX1_glued_49 ?_
      refine z_iaddN F dX1_glued_52 ?_
      refine z_callS F (c_can (nI (nx * nx)) (nI (d1 + d1))) 2 rfl (lw_S q352 q353 q116 q354) (by decide +kernel) ⟨Nat.le_of_ble_eq_true rfl, Nat.le_of_ble_eq_true rfl⟩ ⟨by omega, by omega⟩ [0] 24 ⟨rfl, rfl, rfl, ⟨Or.inl rfl, trivial⟩⟩ (fun h => nomatch h) (Nat.le_of_ble_eq_true rfl) ⟨⟨Or.inr (by first | exact ⟨rfl, pR_B _ (by decide)⟩ | exact ⟨rfl, uR_B (by decide) (by decide)⟩ | exact ⟨rfl, gR_B (by decide) (by decide) (by decide)⟩), Or.inr rfl, Or.inr trivial, Or.inr trivial, Or.inr trivial, Or.inr trivial, Or.inr trivial, Or.inr trivial, Or.inr trivial, Or.inr trivial, Or.inr trivial, Or.inr trivial, Or.inr trivial, Or.inr trivial, Or.inr trivial, Or.inr trivial, Or.inr trivial, Or.inr trivial, Or.inr trivial, Or.inr trivial, Or.inr trivial, Or.inr trivial, Or.inr rfl, Or.inr trivial, trivial⟩, rfl, rfl, rfl, Nat.le_of_ble_eq_true rfl⟩ rfl rfl dX1_glued_53 (fun r_53 w_53 hp => ?_) (fun _ _ h => h.elim)
      obtain ⟨rfl, rfl⟩ := hp
      refine z_weq (w' := [zPl _ _, zO _ [zr _ _, zr _ _, zr _ _, zr _ _, zr _ _, zi _, zi _, zr _ _, zr _ _], zH, zH, zH, zH, zH, zH, zH, zH, zH, zH, zH, zH, zH, zH, zH, zH, zH, zH, zH, zH, zO _ [zi _, zi _, zr _ _], zAi 0 24 _]) rfl ?_
      refine z_seq (S' := zi _ :: _) rfl ?_
      refine z_if_neB F (tgt := 61) dX1_glued_56 (by decide) (fun c_56 => ?_) (fun c_56 => ?_)
      · refine z_new F 24 [zi 0, zi 0, zn] zC5 q151 q232 q116 (fun _ j hj => by match j, hj with | 0, _ => rfl | 1, _ => rfl | 2, _ => rfl) rfl (Nat.le_of_ble_eq_true rfl) (Nat.le_of_ble_eq_true rfl) ⟨(by first | exact pR_N _ (Nat.le_of_ble_eq_true rfl) | exact uR_N (Nat.le_of_ble_eq_true rfl) (Nat.le_of_ble_eq_true rfl) | exact gR_N (Nat.le_of_ble_eq_true rfl) (Nat.le_of_ble_eq_true rfl) (Nat.le_of_ble_eq_true rfl)), rfl, trivial, trivial, trivial, trivial, trivial, trivial, trivial, trivial, trivial, trivial, trivial, trivial, trivial, trivial, trivial, trivial, trivial, trivial, trivial, trivial, rfl, trivial, trivial⟩ rfl rfl ⟨by omega, by omega⟩ dX1_glued_61 ?_
        refine z_weq (w' := [_, _, _, _, _, _, _, _, _, _, _, _, _, _, _, _, _, _, _, _, _, _, _, _, _]) rfl ?_
        refine z_dup F dX1_glued_64 rfl ?_
        refine z_aload F dX1_glued_65 rfl ?_
        refine z_getN F zC5 (f := 0) rfl (Nat.le_of_ble_eq_true rfl) q245 rfl dX1_glued_67 ?_
        refine z_aload F dX1_glued_70 rfl ?_
        refine z_getN F zC5 (f := 0) rfl (Nat.le_of_ble_eq_true rfl) q245 rfl dX1_glued_72 ?_
        refine z_imulN F dX1_glued_75 ?_
        refine z_aload F dX1_glued_76 rfl ?_
        refine z_getN F zC5 (f := 1) rfl (Nat.le_of_ble_eq_true rfl) q248 rfl dX1_glued_78 ?_
        refine z_aload F dX1_glued_81 rfl ?_
        refine z_getN F zC5 (f := 1) rfl (Nat.le_of_ble_eq_true rfl) q248 rfl dX1_glued_83 ?_
        refine z_iaddN F dX1_glued_86 ?_
        refine z_callI F (c_netInit (nI (nx * nx)) (nI (d1 + d1))) 2 rfl (lw_meth q235) q116 q356 q234 rfl (by decide +kernel) ⟨Nat.le_of_ble_eq_true rfl, Nat.le_of_ble_eq_true rfl⟩ ⟨by omega, by omega⟩ [0, 24] 25 ⟨rfl, rfl, rfl, ⟨Or.inl rfl, Or.inr rfl, trivial⟩⟩ (fun h => nomatch h) (Nat.le_of_ble_eq_true rfl) ⟨⟨Or.inr (by first | exact ⟨rfl, pR_B _ (by decide)⟩ | exact ⟨rfl, uR_B (by decide) (by decide)⟩ | exact ⟨rfl, gR_B (by decide) (by decide) (by decide)⟩), Or.inr rfl, Or.inr trivial, Or.inr trivial, Or.inr trivial, Or.inr trivial, Or.inr trivial, Or.inr trivial, Or.inr trivial, Or.inr trivial, Or.inr trivial, Or.inr trivial, Or.inr trivial, Or.inr trivial, Or.inr trivial, Or.inr trivial, Or.inr trivial, Or.inr trivial, Or.inr trivial, Or.inr trivial, Or.inr trivial, Or.inr trivial, Or.inr rfl, Or.inr trivial, Or.inl rfl, trivial⟩, rfl, rfl, rfl, Nat.le_of_ble_eq_true rfl⟩ rfl rfl dX1_glued_87 (fun r_87 w_87 hp => ?_) (fun _ _ h => h.elim)
        obtain ⟨rfl, rfl⟩ := hp
        refine z_weq (w' := [zPl _ _, zO _ [zr _ _, zr _ _, zr _ _, zr _ _, zr _ _, zi _, zi _, zr _ _, zr _ _], zH, zH, zH, zH, zH, zH, zH, zH, zH, zH, zH, zH, zH, zH, zH, zH, zH, zH, zH, zH, zO _ [zi _, zi _, zr _ _], zAi 0 24 _, zO _ [zi _, zi _, zr _ _], zAi 0 24 _]) rfl ?_
        refine z_seq (S' := [_]) rfl ?_
        refine z_astore F dX1_glued_90 (Nat.le_of_ble_eq_true rfl) ?_
        refine z_leq (L' := [_, _, _, _, _, _, _, _, _, _, _, _, _]) rfl ?_
        refine z_iconst F (nI 0) dX1_glued_92 rfl ?_
        refine z_istore F dX1_glued_93 (Nat.le_of_ble_eq_true rfl) ?_
        refine z_leq (L' := [_, _, _, _, _, _, _, _, _, _, _, _, _]) rfl ?_
        exact rows _ _ (by omega) (by omega) (fin _ _ (by omega) (by omega)) (nx * nx + 1) 0 (by omega) (by omega)
      · rw [inB_nn (Nat.mul_pos p1 p2) hN (by omega), inB_nn (by omega) hd (by omega)] at c_56; cases c_56
theorem c_pgluedB_no (P : zPt) (t : Nat) (fp0 : Int32) (x  nx d1 : Nat) (fp : Nat → Int32) (hx : x < 8) (h1 : nok nx d1 fp) (hPx : P x = some (nI nx, nI d1, fp)) (s k : Int32) (h : glB s k nx nx d1 d1 = false) : zCtr yX1_glued cX1_glued 13 (some .boolean) 8 10 80 [zr 1 0, zi s, zi k, zi (nI x), zi (nI x)] (xH P t fp0) (fun r w => r = some (zi (bI false)) ∧ w = xH P t fp0) zNx := by
  refine z_start (by decide) [some (zr 1 0), some (zi s), some (zi k), some (zi (nI x)), some (zi (nI x)), none, none, none, none, none, none, none, none] rfl (fun _ => Nat.le_of_ble_eq_true rfl) (fun _ => rfl) (fun X F E hno hin => ?_)
  refine z_aload_n F dX1_glued_0 rfl ?_
  refine z_iload_n F dX1_glued_1 rfl ?_
  refine z_callV F (c_netAt_ok P t fp0 x hx hPx) 1 rfl (lw_V q429 q431 qs0 q109 q432) (by decide +kernel) ⟨Nat.le_of_ble_eq_true rfl, Nat.le_of_ble_eq_true rfl⟩ ⟨by omega, by omega⟩ [0, 1, 2, 3, 4, 5, 6, 7, 8, 9, 10, 11, 12, 13, 14, 15, 16, 17, 18, 19, 20, 21] 22 ⟨rfl, rfl, rfl, ⟨Or.inr (congrArg some (zrnP rfl).symm), Or.inr rfl, Or.inl rfl, Or.inl rfl, Or.inl rfl, Or.inl rfl, Or.inl rfl, Or.inl rfl, Or.inl rfl, Or.inl rfl, Or.inl rfl, Or.inl rfl, Or.inl rfl, Or.inl rfl, Or.inl rfl, Or.inl rfl, Or.inl rfl, Or.inl rfl, Or.inl rfl, Or.inl rfl, Or.inl rfl, Or.inl rfl, trivial⟩⟩ (fun _ => rfl) (Nat.le_of_ble_eq_true rfl) ⟨⟨Or.inl rfl, Or.inl rfl, Or.inr trivial, Or.inr trivial, Or.inr trivial, Or.inr trivial, Or.inr trivial, Or.inr trivial, Or.inr trivial, Or.inr trivial, Or.inr trivial, Or.inr trivial, Or.inr trivial, Or.inr trivial, Or.inr trivial, Or.inr trivial, Or.inr trivial, Or.inr trivial, Or.inr trivial, Or.inr trivial, Or.inr trivial, Or.inr trivial, trivial⟩, rfl, rfl, rfl, Nat.le_of_ble_eq_true rfl⟩ rfl zC1 rfl rfl dX1_glued_2 (fun r_2 w_2 hp => ?_) (fun _ _ h => h.elim)
  obtain ⟨rfl, rfl⟩ := hp
  refine z_weq (w' := zPl (pR _) _ :: _) (congrArg (fun z => z :: _) (zrnP rfl)) ?_
  refine z_weq (w' := [zPl _ _, zO _ [zr _ _, zr _ _, zr _ _, zr _ _, zr _ _, zi _, zi _, zr _ _, zr _ _], zH, zH, zH, zH, zH, zH, zH, zH, zH, zH, zH, zH, zH, zH, zH, zH, zH, zH, zH, zH]) rfl ?_
  refine z_seq (S' := zr _ _ :: _) rfl ?_
  refine z_astore F dX1_glued_5 (Nat.le_of_ble_eq_true rfl) ?_
  refine z_leq (L' := [_, _, _, _, _, _, _, _, _, _, _, _, _]) rfl ?_
  refine z_foc F x hx hPx (N := 22) (M := 23) (L' := [_, _, _, _, _, some (zr 22 0), _, _, _, _, _, _, _]) (S' := []) rfl rfl (Nat.le_of_ble_eq_true rfl) ⟨rfl, trivial, trivial, trivial, trivial, trivial, trivial, trivial, trivial, trivial, trivial, trivial, trivial, trivial, trivial, trivial, trivial, trivial, trivial, trivial, trivial, trivial⟩ ⟨Or.inl rfl, Or.inl rfl, Or.inl rfl, Or.inl rfl, Or.inl rfl, Or.inr ⟨rfl, rfl⟩, Or.inl rfl, Or.inl rfl, Or.inl rfl, Or.inl rfl, Or.inl rfl, Or.inl rfl, Or.inl rfl, trivial⟩ rfl trivial rfl ?_
  refine z_weq (w' := [zPl _ _, zO _ [zr _ _, zr _ _, zr _ _, zr _ _, zr _ _, zi _, zi _, zr _ _, zr _ _], zH, zH, zH, zH, zH, zH, zH, zH, zH, zH, zH, zH, zH, zH, zH, zH, zH, zH, zH, zH, zO _ [zi _, zi _, zr _ _], zAi 0 24 _]) rfl ?_
  refine z_aload_n F dX1_glued_7 rfl ?_
  refine z_iload F dX1_glued_8 rfl ?_
  refine z_callV F (c_netAt2 P t fp0 x x 22 0 hx (show zput (pR P) x (zr 22 0) x = _ by unfold zput; rw [if_pos rfl])) 1 rfl (lw_V q429 q431 qs0 q109 q432) (by decide +kernel) ⟨Nat.le_of_ble_eq_true rfl, Nat.le_of_ble_eq_true rfl⟩ ⟨by omega, by omega⟩ [0, 1, 2, 3, 4, 5, 6, 7, 8, 9, 10, 11, 12, 13, 14, 15, 16, 17, 18, 19, 20, 21, 22, 23] 24 ⟨rfl, rfl, rfl, ⟨Or.inr (congrArg some (zrnU rfl rfl).symm), Or.inr rfl, Or.inl rfl, Or.inl rfl, Or.inl rfl, Or.inl rfl, Or.inl rfl, Or.inl rfl, Or.inl rfl, Or.inl rfl, Or.inl rfl, Or.inl rfl, Or.inl rfl, Or.inl rfl, Or.inl rfl, Or.inl rfl, Or.inl rfl, Or.inl rfl, Or.inl rfl, Or.inl rfl, Or.inl rfl, Or.inl rfl, Or.inl rfl, Or.inl rfl, trivial⟩⟩ (fun _ => rfl) (Nat.le_of_ble_eq_true rfl) ⟨⟨Or.inl rfl, Or.inl rfl, Or.inr trivial, Or.inr trivial, Or.inr trivial, Or.inr trivial, Or.inr trivial, Or.inr trivial, Or.inr trivial, Or.inr trivial, Or.inr trivial, Or.inr trivial, Or.inr trivial, Or.inr trivial, Or.inr trivial, Or.inr trivial, Or.inr trivial, Or.inr trivial, Or.inr trivial, Or.inr trivial, Or.inr trivial, Or.inr trivial, Or.inr rfl, Or.inr trivial, trivial⟩, rfl, rfl, rfl, Nat.le_of_ble_eq_true rfl⟩ rfl zC1 rfl rfl dX1_glued_10 (fun r_10 w_10 hp => ?_) (fun _ _ h => h.elim)
  obtain ⟨rfl, rfl⟩ := hp
  refine z_weq (w' := zPl (zput (pR _) _ _) _ :: _) (congrArg (fun z => z :: _) (zrnU rfl rfl)) ?_
  refine z_weq (w' := [zPl _ _, zO _ [zr _ _, zr _ _, zr _ _, zr _ _, zr _ _, zi _, zi _, zr _ _, zr _ _], zH, zH, zH, zH, zH, zH, zH, zH, zH, zH, zH, zH, zH, zH, zH, zH, zH, zH, zH, zH, zO _ [zi _, zi _, zr _ _], zAi 0 24 _]) rfl ?_
  refine z_seq (S' := zr _ _ :: _) rfl ?_
  refine z_astore F dX1_glued_13 (Nat.le_of_ble_eq_true rfl) ?_
  refine z_leq (L' := [_, _, _, _, _, _, _, _, _, _, _, _, _]) rfl ?_
  refine z_iload_n F dX1_glued_15 rfl ?_
  refine z_callS F (c_xSlot s) 1 rfl (lw_S q346 q347 q109 q348) (by decide +kernel) ⟨Nat.le_of_ble_eq_true rfl, Nat.le_of_ble_eq_true rfl⟩ ⟨by omega, by omega⟩ [0] 24 ⟨rfl, rfl, rfl, ⟨Or.inl rfl, trivial⟩⟩ (fun h => nomatch h) (Nat.le_of_ble_eq_true rfl) ⟨⟨Or.inr (by first | exact ⟨rfl, pR_B _ (by decide)⟩ | exact ⟨rfl, uR_B (by decide) (by decide)⟩ | exact ⟨rfl, gR_B (by decide) (by decide) (by decide)⟩), Or.inr rfl, Or.inr trivial, Or.inr trivial, Or.inr trivial, Or.inr trivial, Or.inr trivial, Or.inr trivial, Or.inr trivial, Or.inr trivial, Or.inr trivial, Or.inr trivial, Or.inr trivial, Or.inr trivial, Or.inr trivial, Or.inr trivial, Or.inr trivial, Or.inr trivial, Or.inr trivial, Or.inr trivial, Or.inr trivial, Or.inr trivial, Or.inr rfl, Or.inr trivial, trivial⟩, rfl, rfl, rfl, Nat.le_of_ble_eq_true rfl⟩ rfl rfl dX1_glued_16 (fun r_16 w_16 hp => ?_) (fun _ _ h => h.elim)
  obtain ⟨rfl, rfl⟩ := hp
  refine z_weq (w' := [zPl _ _, zO _ [zr _ _, zr _ _, zr _ _, zr _ _, zr _ _, zi _, zi _, zr _ _, zr _ _], zH, zH, zH, zH, zH, zH, zH, zH, zH, zH, zH, zH, zH, zH, zH, zH, zH, zH, zH, zH, zO _ [zi _, zi _, zr _ _], zAi 0 24 _]) rfl ?_
  refine z_seq (S' := zi _ :: _) rfl ?_
  refine z_if_eqB F (tgt := 59) dX1_glued_19 (by decide) (fun c_19 => ?_) (fun c_19 => ?_)
  · refine z_iconstB F false dX1_glued_59 rfl ?_
    refine z_loc [some _, some _, some _, some _, some _, none, none, none, none, none, none, none, none] ⟨rfl, rfl, rfl, rfl, rfl, trivial⟩ ?_
    refine z_unfocus F rfl x 22 23 22 hx zput_self rfl rfl (Nat.le_of_ble_eq_true rfl) (Nat.le_of_ble_eq_true rfl) (Nat.le_of_ble_eq_true rfl) (Nat.le_of_ble_eq_true rfl) [zO _ [zr _ _, zr _ _, zr _ _, zr _ _, zr _ _, zi _, zi _, zr _ _, zr _ _], zH, zH, zH, zH, zH, zH, zH, zH, zH, zH, zH, zH, zH, zH, zH, zH, zH, zH, zH, zH] rfl ⟨rfl, trivial, trivial, trivial, trivial, trivial, trivial, trivial, trivial, trivial, trivial, trivial, trivial, trivial, trivial, trivial, trivial, trivial, trivial, trivial, trivial, trivial⟩ uOK rfl rfl ?_
    refine z_weq (w' := zPl (pR (zput P x (some _))) (zput P x (some _)) :: _) (congrArg (fun z => z :: _) uPl2) ?_
    exact z_zret F E rfl rfl dX1_glued_60 (by omega) (by omega) (⟨rfl, by rw [zput_some hPx]; rfl⟩)
  · refine z_iload_n F dX1_glued_22 rfl ?_
    refine z_iconst F (nI 0) dX1_glued_23 rfl ?_
    refine z_iconst F (nI 1) dX1_glued_24 rfl ?_
    refine z_callS F (c_in k (nI 0) (nI 1)) 3 rfl (lw_S q349 q350 q109 q351) (by decide +kernel) ⟨Nat.le_of_ble_eq_true rfl, Nat.le_of_ble_eq_true rfl⟩ ⟨by omega, by omega⟩ [0] 24 ⟨rfl, rfl, rfl, ⟨Or.inl rfl, trivial⟩⟩ (fun h => nomatch h) (Nat.le_of_ble_eq_true rfl) ⟨⟨Or.inr (by first | exact ⟨rfl, pR_B _ (by decide)⟩ | exact ⟨rfl, uR_B (by decide) (by decide)⟩ | exact ⟨rfl, gR_B (by decide) (by decide) (by decide)⟩), Or.inr rfl, Or.inr trivial, Or.inr trivial, Or.inr trivial, Or.inr trivial, Or.inr trivial, Or.inr trivial, Or.inr trivial, Or.inr trivial, Or.inr trivial, Or.inr trivial, Or.inr trivial, Or.inr trivial, Or.inr trivial, Or.inr trivial, Or.inr trivial, Or.inr trivial, Or.inr trivial, Or.inr trivial, Or.inr trivial, Or.inr trivial, Or.inr rfl, Or.inr trivial, trivial⟩, rfl, rfl, rfl, Nat.le_of_ble_eq_true rfl⟩ rfl rfl dX1_glued_25 (fun r_25 w_25 hp => ?_) (fun _ _ h => h.elim)
    obtain ⟨rfl, rfl⟩ := hp
    refine z_weq (w' := [zPl _ _, zO _ [zr _ _, zr _ _, zr _ _, zr _ _, zr _ _, zi _, zi _, zr _ _, zr _ _], zH, zH, zH, zH, zH, zH, zH, zH, zH, zH, zH, zH, zH, zH, zH, zH, zH, zH, zH, zH, zO _ [zi _, zi _, zr _ _], zAi 0 24 _]) rfl ?_
    refine z_seq (S' := zi _ :: _) rfl ?_
    refine z_if_eqB F (tgt := 59) dX1_glued_28 (by decide) (fun c_28 => ?_) (fun c_28 => ?_)
    · refine z_iconstB F false dX1_glued_59 rfl ?_
      refine z_loc [some _, some _, some _, some _, some _, none, none, none, none, none, none, none, none] ⟨rfl, rfl, rfl, rfl, rfl, trivial⟩ ?_
      refine z_unfocus F rfl x 22 23 22 hx zput_self rfl rfl (Nat.le_of_ble_eq_true rfl) (Nat.le_of_ble_eq_true rfl) (Nat.le_of_ble_eq_true rfl) (Nat.le_of_ble_eq_true rfl) [zO _ [zr _ _, zr _ _, zr _ _, zr _ _, zr _ _, zi _, zi _, zr _ _, zr _ _], zH, zH, zH, zH, zH, zH, zH, zH, zH, zH, zH, zH, zH, zH, zH, zH, zH, zH, zH, zH] rfl ⟨rfl, trivial, trivial, trivial, trivial, trivial, trivial, trivial, trivial, trivial, trivial, trivial, trivial, trivial, trivial, trivial, trivial, trivial, trivial, trivial, trivial, trivial⟩ uOK rfl rfl ?_
      refine z_weq (w' := zPl (pR (zput P x (some _))) (zput P x (some _)) :: _) (congrArg (fun z => z :: _) uPl2) ?_
      exact z_zret F E rfl rfl dX1_glued_60 (by omega) (by omega) (⟨rfl, by rw [zput_some hPx]; rfl⟩)
    · refine z_aload F dX1_glued_31 rfl ?_
      refine z_getN F zC5 (f := 0) rfl (Nat.le_of_ble_eq_true rfl) q245 rfl dX1_glued_33 ?_
      refine z_aload F dX1_glued_36 rfl ?_
      refine z_getN F zC5 (f := 0) rfl (Nat.le_of_ble_eq_true rfl) q245 rfl dX1_glued_38 ?_
      refine z_imulN F dX1_glued_41 ?_
      refine z_aload F dX1_glued_42 rfl ?_
      refine z_getN F zC5 (f := 1) rfl (Nat.le_of_ble_eq_true rfl) q248 rfl dX1_glued_44 ?_
      refine z_aload F dX1_glued_47 rfl ?_
      refine z_getN F zC5 (f := 1) rfl (Nat.le_of_ble_eq_true rfl) q248 rfl dX1_glued_49 ?_
      refine z_iaddN F dX1_glued_52 ?_
      refine z_callS F (c_can (nI (nx * nx)) (nI (d1 + d1))) 2 rfl (lw_S q352 q353 q116 q354) (by decide +kernel) ⟨Nat.le_of_ble_eq_true rfl, Nat.le_of_ble_eq_true rfl⟩ ⟨by omega, by omega⟩ [0] 24 ⟨rfl, rfl, rfl, ⟨Or.inl rfl, trivial⟩⟩ (fun h => nomatch h) (Nat.le_of_ble_eq_true rfl) ⟨⟨Or.inr (by first | exact ⟨rfl, pR_B _ (by decide)⟩ | exact ⟨rfl, uR_B (by decide) (by decide)⟩ | exact ⟨rfl, gR_B (by decide) (by decide) (by decide)⟩), Or.inr rfl, Or.inr trivial, Or.inr trivial, Or.inr trivial, Or.inr trivial, Or.inr trivial, Or.inr trivial, Or.inr trivial, Or.inr trivial, Or.inr trivial, Or.inr trivial, Or.inr trivial, Or.inr trivial, Or.inr trivial, Or.inr trivial, Or.inr trivial, Or.inr trivial, Or.inr trivial, Or.inr trivial, Or.inr trivial, Or.inr trivial, Or.inr rfl, Or.inr trivial, trivial⟩, rfl, rfl, rfl, Nat.le_of_ble_eq_true rfl⟩ rfl rfl dX1_glued_53 (fun r_53 w_53 hp => ?_) (fun _ _ h => h.elim)
      obtain ⟨rfl, rfl⟩ := hp
      refine z_weq (w' := [zPl _ _, zO _ [zr _ _, zr _ _, zr _ _, zr _ _, zr _ _, zi _, zi _, zr _ _, zr _ _], zH, zH, zH, zH, zH, zH, zH, zH, zH, zH, zH, zH, zH, zH, zH, zH, zH, zH, zH, zH, zO _ [zi _, zi _, zr _ _], zAi 0 24 _]) rfl ?_
      refine z_seq (S' := zi _ :: _) rfl ?_
      refine z_if_neB F (tgt := 61) dX1_glued_56 (by decide) (fun c_56 => ?_) (fun c_56 => ?_)
      · unfold glB at h; rw [c_19, c_28, c_56] at h; cases h
      · refine z_iconstB F false dX1_glued_59 rfl ?_
        refine z_loc [some _, some _, some _, some _, some _, none, none, none, none, none, none, none, none] ⟨rfl, rfl, rfl, rfl, rfl, trivial⟩ ?_
        refine z_unfocus F rfl x 22 23 22 hx zput_self rfl rfl (Nat.le_of_ble_eq_true rfl) (Nat.le_of_ble_eq_true rfl) (Nat.le_of_ble_eq_true rfl) (Nat.le_of_ble_eq_true rfl) [zO _ [zr _ _, zr _ _, zr _ _, zr _ _, zr _ _, zi _, zi _, zr _ _, zr _ _], zH, zH, zH, zH, zH, zH, zH, zH, zH, zH, zH, zH, zH, zH, zH, zH, zH, zH, zH, zH] rfl ⟨rfl, trivial, trivial, trivial, trivial, trivial, trivial, trivial, trivial, trivial, trivial, trivial, trivial, trivial, trivial, trivial, trivial, trivial, trivial, trivial, trivial, trivial⟩ uOK rfl rfl ?_
        refine z_weq (w' := zPl (pR (zput P x (some _))) (zput P x (some _)) :: _) (congrArg (fun z => z :: _) uPl2) ?_
        exact z_zret F E rfl rfl dX1_glued_60 (by omega) (by omega) (⟨rfl, by rw [zput_some hPx]; rfl⟩)
end C98
