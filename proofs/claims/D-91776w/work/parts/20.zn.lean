section ZN1
theorem nI_c0 : (0 : Int32) = nI 0 := rfl
theorem zcl_n {a : Nat} (h : a < 2 ^ 31) : (nI a).toNatClampNeg = a := nI_clamp h
variable {X : zX} {cc : ByteArray} {own : String} {ret : Option FieldType} {nL d mc ms nw : Nat} {np : Bool} {L : List (Option zV)} {S : List zV} {w : List zE} {k n pc : Nat}
theorem z_leq {L' : List (Option zV)} (h : L = L') (kk : Z X L' S w k n pc) : Z X L S w k n pc := h ▸ kk
theorem z_seq {S' : List zV} (h : S = S') (kk : Z X L S' w k n pc) : Z X L S w k n pc := h ▸ kk
theorem z_iaddN (F : zFix X cc own ret nL d mc ms nw np) {a b : Nat} (hd : decode cc pc = .ok (.iadd, 1)) (kk : Z X L (zi (nI (a + b)) :: S) w k n (pc + 1)) : Z X L (zi (nI b) :: zi (nI a) :: S) w k n pc := z_iadd F hd (by rw [nI_add]; exact kk)
theorem z_isubN (F : zFix X cc own ret nL d mc ms nw np) {a b : Nat} (h : b ≤ a) (hd : decode cc pc = .ok (.isub, 1)) (kk : Z X L (zi (nI (a - b)) :: S) w k n (pc + 1)) : Z X L (zi (nI b) :: zi (nI a) :: S) w k n pc := z_isub F hd (by rw [pk_sub h]; exact kk)
theorem z_imulN (F : zFix X cc own ret nL d mc ms nw np) {a b : Nat} (hd : decode cc pc = .ok (.imul, 1)) (kk : Z X L (zi (nI (a * b)) :: S) w k n (pc + 1)) : Z X L (zi (nI b) :: zi (nI a) :: S) w k n pc := z_imul F hd (by rw [pk_mul]; exact kk)
theorem z_idivN (F : zFix X cc own ret nL d mc ms nw np) {a b : Nat} (ha : a < 2 ^ 31) (h0 : 0 < b) (hb : b < 2 ^ 31) (hd : decode cc pc = .ok (.idiv, 1)) (kk : Z X L (zi (nI (a / b)) :: S) w k n (pc + 1)) : Z X L (zi (nI b) :: zi (nI a) :: S) w k n pc := z_idiv F hd (nI_ne0 h0 hb) (by rw [pk_div ha h0 hb]; exact kk)
theorem z_iremN (F : zFix X cc own ret nL d mc ms nw np) {a b : Nat} (ha : a < 2 ^ 31) (h0 : 0 < b) (hb : b < 2 ^ 31) (hd : decode cc pc = .ok (.irem, 1)) (kk : Z X L (zi (nI (a % b)) :: S) w k n (pc + 1)) : Z X L (zi (nI b) :: zi (nI a) :: S) w k n pc := z_irem F hd (nI_ne0 h0 hb) (by rw [pk_rem ha h0 hb]; exact kk)
theorem z_iincN (F : zFix X cc own ret nL d mc ms nw np) {j : Nat} {n0 : Int} (c : Nat) {a : Nat} (hd : decode cc pc = .ok (.iinc j n0, 3)) (hn : Int32.ofInt n0 = nI c) (hl : L[j]? = some (some (zi (nI a)))) (kk : Z X (zst L j (zi (nI (a + c)))) S w k n (pc + 3)) : Z X L S w k n pc := z_iinc F _ hd hl (by rw [hn, nI_add]) kk
theorem z_idecN (F : zFix X cc own ret nL d mc ms nw np) {j : Nat} {n0 : Int} {a : Nat} (ha : 1 ≤ a) (hd : decode cc pc = .ok (.iinc j n0, 3)) (hn : n0 = -1) (hl : L[j]? = some (some (zi (nI a)))) (kk : Z X (zst L j (zi (nI (a - 1)))) S w k n (pc + 3)) : Z X L S w k n pc := z_iinc F _ hd hl (by
  subst hn
  obtain ⟨b, rfl⟩ : ∃ b, a = b + 1 := ⟨a - 1, by omega⟩
  rw [show (Int32.ofInt (-1)) = -1 by decide, pk_m1]; rfl) kk

theorem z_icmp_eqN (F : zFix X cc own ret nL d mc ms nw np) {a b : Nat} (ha : a < 2 ^ 31) (hb : b < 2 ^ 31) {off : Int} {tgt : Nat} (hd : decode cc pc = .ok (.if_icmp .eq off, 3)) (ht : (pc : Int) + off = (tgt : Int)) (kt : a = b → Z X L S w k n tgt) (kf : ¬ a = b → Z X L S w k n (pc + 3)) : Z X L (zi (nI b) :: zi (nI a) :: S) w k n pc := z_icmp_eq F hd ht (fun q => kt ((nI_eq ha hb).mp q)) (fun q => kf (fun r => q ((nI_eq ha hb).mpr r)))
theorem z_if_eqN (F : zFix X cc own ret nL d mc ms nw np) {a : Nat} (ha : a < 2 ^ 31) {off : Int} {tgt : Nat} (hd : decode cc pc = .ok (.ifCond .eq off, 3)) (ht : (pc : Int) + off = (tgt : Int)) (kt : a = 0 → Z X L S w k n tgt) (kf : ¬ a = 0 → Z X L S w k n (pc + 3)) : Z X L (zi (nI a) :: S) w k n pc := by
  have h0z : (0 : Nat) < 2 ^ 31 := by decide
  exact z_if_eq F hd ht (fun q => kt ((nI_eq ha h0z).mp q)) (fun q => kf (fun r => q ((nI_eq ha h0z).mpr r)))
theorem z_icmp_neN (F : zFix X cc own ret nL d mc ms nw np) {a b : Nat} (ha : a < 2 ^ 31) (hb : b < 2 ^ 31) {off : Int} {tgt : Nat} (hd : decode cc pc = .ok (.if_icmp .ne off, 3)) (ht : (pc : Int) + off = (tgt : Int)) (kt : ¬ a = b → Z X L S w k n tgt) (kf : a = b → Z X L S w k n (pc + 3)) : Z X L (zi (nI b) :: zi (nI a) :: S) w k n pc := z_icmp_ne F hd ht (fun q => kt (fun r => q ((nI_eq ha hb).mpr r))) (fun q => kf ((nI_eq ha hb).mp q))
theorem z_if_neN (F : zFix X cc own ret nL d mc ms nw np) {a : Nat} (ha : a < 2 ^ 31) {off : Int} {tgt : Nat} (hd : decode cc pc = .ok (.ifCond .ne off, 3)) (ht : (pc : Int) + off = (tgt : Int)) (kt : ¬ a = 0 → Z X L S w k n tgt) (kf : a = 0 → Z X L S w k n (pc + 3)) : Z X L (zi (nI a) :: S) w k n pc := by
  have h0z : (0 : Nat) < 2 ^ 31 := by decide
  exact z_if_ne F hd ht (fun q => kt (fun r => q ((nI_eq ha h0z).mpr r))) (fun q => kf ((nI_eq ha h0z).mp q))
theorem z_icmp_ltN (F : zFix X cc own ret nL d mc ms nw np) {a b : Nat} (ha : a < 2 ^ 31) (hb : b < 2 ^ 31) {off : Int} {tgt : Nat} (hd : decode cc pc = .ok (.if_icmp .lt off, 3)) (ht : (pc : Int) + off = (tgt : Int)) (kt : a < b → Z X L S w k n tgt) (kf : b ≤ a → Z X L S w k n (pc + 3)) : Z X L (zi (nI b) :: zi (nI a) :: S) w k n pc := z_icmp_lt F hd ht (fun q => kt ((nI_ltI ha hb).mp q)) (fun q => kf (Nat.not_lt.mp fun r => q ((nI_ltI ha hb).mpr r)))
theorem z_if_ltN (F : zFix X cc own ret nL d mc ms nw np) {a : Nat} (ha : a < 2 ^ 31) {off : Int} {tgt : Nat} (hd : decode cc pc = .ok (.ifCond .lt off, 3)) (ht : (pc : Int) + off = (tgt : Int)) (kt : a < 0 → Z X L S w k n tgt) (kf : 0 ≤ a → Z X L S w k n (pc + 3)) : Z X L (zi (nI a) :: S) w k n pc := by
  have h0z : (0 : Nat) < 2 ^ 31 := by decide
  exact z_if_lt F hd ht (fun q => kt ((nI_ltI ha h0z).mp q)) (fun q => kf (Nat.not_lt.mp fun r => q ((nI_ltI ha h0z).mpr r)))
theorem z_icmp_geN (F : zFix X cc own ret nL d mc ms nw np) {a b : Nat} (ha : a < 2 ^ 31) (hb : b < 2 ^ 31) {off : Int} {tgt : Nat} (hd : decode cc pc = .ok (.if_icmp .ge off, 3)) (ht : (pc : Int) + off = (tgt : Int)) (kt : b ≤ a → Z X L S w k n tgt) (kf : a < b → Z X L S w k n (pc + 3)) : Z X L (zi (nI b) :: zi (nI a) :: S) w k n pc := z_icmp_ge F hd ht (fun q => kt ((nI_leI hb ha).mp q)) (fun q => kf (Nat.not_le.mp fun r => q ((nI_leI hb ha).mpr r)))
theorem z_if_geN (F : zFix X cc own ret nL d mc ms nw np) {a : Nat} (ha : a < 2 ^ 31) {off : Int} {tgt : Nat} (hd : decode cc pc = .ok (.ifCond .ge off, 3)) (ht : (pc : Int) + off = (tgt : Int)) (kt : 0 ≤ a → Z X L S w k n tgt) (kf : a < 0 → Z X L S w k n (pc + 3)) : Z X L (zi (nI a) :: S) w k n pc := by
  have h0z : (0 : Nat) < 2 ^ 31 := by decide
  exact z_if_ge F hd ht (fun q => kt ((nI_leI h0z ha).mp q)) (fun q => kf (Nat.not_le.mp fun r => q ((nI_leI h0z ha).mpr r)))
theorem z_icmp_gtN (F : zFix X cc own ret nL d mc ms nw np) {a b : Nat} (ha : a < 2 ^ 31) (hb : b < 2 ^ 31) {off : Int} {tgt : Nat} (hd : decode cc pc = .ok (.if_icmp .gt off, 3)) (ht : (pc : Int) + off = (tgt : Int)) (kt : b < a → Z X L S w k n tgt) (kf : a ≤ b → Z X L S w k n (pc + 3)) : Z X L (zi (nI b) :: zi (nI a) :: S) w k n pc := z_icmp_gt F hd ht (fun q => kt ((nI_ltI hb ha).mp q)) (fun q => kf (Nat.not_lt.mp fun r => q ((nI_ltI hb ha).mpr r)))
theorem z_if_gtN (F : zFix X cc own ret nL d mc ms nw np) {a : Nat} (ha : a < 2 ^ 31) {off : Int} {tgt : Nat} (hd : decode cc pc = .ok (.ifCond .gt off, 3)) (ht : (pc : Int) + off = (tgt : Int)) (kt : 0 < a → Z X L S w k n tgt) (kf : a ≤ 0 → Z X L S w k n (pc + 3)) : Z X L (zi (nI a) :: S) w k n pc := by
  have h0z : (0 : Nat) < 2 ^ 31 := by decide
  exact z_if_gt F hd ht (fun q => kt ((nI_ltI h0z ha).mp q)) (fun q => kf (Nat.not_lt.mp fun r => q ((nI_ltI h0z ha).mpr r)))
theorem z_icmp_leN (F : zFix X cc own ret nL d mc ms nw np) {a b : Nat} (ha : a < 2 ^ 31) (hb : b < 2 ^ 31) {off : Int} {tgt : Nat} (hd : decode cc pc = .ok (.if_icmp .le off, 3)) (ht : (pc : Int) + off = (tgt : Int)) (kt : a ≤ b → Z X L S w k n tgt) (kf : b < a → Z X L S w k n (pc + 3)) : Z X L (zi (nI b) :: zi (nI a) :: S) w k n pc := z_icmp_le F hd ht (fun q => kt ((nI_leI ha hb).mp q)) (fun q => kf (Nat.not_le.mp fun r => q ((nI_leI ha hb).mpr r)))
theorem z_if_leN (F : zFix X cc own ret nL d mc ms nw np) {a : Nat} (ha : a < 2 ^ 31) {off : Int} {tgt : Nat} (hd : decode cc pc = .ok (.ifCond .le off, 3)) (ht : (pc : Int) + off = (tgt : Int)) (kt : a ≤ 0 → Z X L S w k n tgt) (kf : 0 < a → Z X L S w k n (pc + 3)) : Z X L (zi (nI a) :: S) w k n pc := by
  have h0z : (0 : Nat) < 2 ^ 31 := by decide
  exact z_if_le F hd ht (fun q => kt ((nI_leI ha h0z).mp q)) (fun q => kf (Nat.not_le.mp fun r => q ((nI_leI ha h0z).mpr r)))
theorem z_ialdN (F : zFix X cc own ret nL d mc ms nw np) {p N : Nat} {f : Nat → Int32} {a : Nat} {x : Int32} (hw : w[p]? = some (.inr (.inl (0, N, .inl f)))) (hN : N < 2 ^ 31) (hi : a < N) (hx : f a = x) (hd : decode cc pc = .ok (.iaload, 1))
    (kk : Z X L (zi x :: S) w k n (pc + 1)) : Z X L (zi (nI a) :: zr p 0 :: S) w k n pc := z_iald F hw (vp_in_nI hi hN) hd (by rw [zcl_n (by omega), hx]; exact kk)
theorem z_ialdMN (F : zFix X cc own ret nL d mc ms nw np) {p t N m i0 : Nat} {M : Nat → Nat → Int32} {a : Nat} {x : Int32} (hw : w[p]? = some (zMi t 0 N m M)) (h0 : i0 < N) (hN : m < 2 ^ 31) (hi : a < m) (hx : M i0 a = x) (hd : decode cc pc = .ok (.iaload, 1))
    (kk : Z X L (zi x :: S) w k n (pc + 1)) : Z X L (zi (nI a) :: zr p (i0 + 1) :: S) w k n pc := z_ialdM F hw h0 (vp_in_nI hi hN) hd (by rw [zcl_n (by omega), hx]; exact kk)
theorem z_ialdGN (F : zFix X cc own ret nL d mc ms nw np) {p N f : Nat} {Fv : Nat → Int32} {Gv : Nat → Int64} {Av : Nat → Nat → Int32} {Bv : Nat → Nat → Int64} {a : Nat} {x : Int32} (hw : w[p]? = some (zG Fv Gv Av Bv)) (h0 : zmT f = (2, 0, N)) (hN : N < 2 ^ 31) (hi : a < N) (hx : Av f a = x) (hd : decode cc pc = .ok (.iaload, 1))
    (kk : Z X L (zi x :: S) w k n (pc + 1)) : Z X L (zi (nI a) :: zr p (f + 1) :: S) w k n pc := z_ialdG F hw h0 (vp_in_nI hi hN) hd (by rw [zcl_n (by omega), hx]; exact kk)
theorem z_zaldN (F : zFix X cc own ret nL d mc ms nw np) {p N : Nat} {f : Nat → Int32} {a : Nat} {x : Int32} (hw : w[p]? = some (.inr (.inl (2, N, .inl f)))) (hN : N < 2 ^ 31) (hi : a < N) (hx : f a = x) (hd : decode cc pc = .ok (.baload, 1))
    (kk : Z X L (zi x :: S) w k n (pc + 1)) : Z X L (zi (nI a) :: zr p 0 :: S) w k n pc := z_zald F hw (vp_in_nI hi hN) hd (by rw [zcl_n (by omega), hx]; exact kk)
theorem z_zaldMN (F : zFix X cc own ret nL d mc ms nw np) {p t N m i0 : Nat} {M : Nat → Nat → Int32} {a : Nat} {x : Int32} (hw : w[p]? = some (zMi t 2 N m M)) (h0 : i0 < N) (hN : m < 2 ^ 31) (hi : a < m) (hx : M i0 a = x) (hd : decode cc pc = .ok (.baload, 1))
    (kk : Z X L (zi x :: S) w k n (pc + 1)) : Z X L (zi (nI a) :: zr p (i0 + 1) :: S) w k n pc := z_zaldM F hw h0 (vp_in_nI hi hN) hd (by rw [zcl_n (by omega), hx]; exact kk)
theorem z_zaldGN (F : zFix X cc own ret nL d mc ms nw np) {p N f : Nat} {Fv : Nat → Int32} {Gv : Nat → Int64} {Av : Nat → Nat → Int32} {Bv : Nat → Nat → Int64} {a : Nat} {x : Int32} (hw : w[p]? = some (zG Fv Gv Av Bv)) (h0 : zmT f = (2, 2, N)) (hN : N < 2 ^ 31) (hi : a < N) (hx : Av f a = x) (hd : decode cc pc = .ok (.baload, 1))
    (kk : Z X L (zi x :: S) w k n (pc + 1)) : Z X L (zi (nI a) :: zr p (f + 1) :: S) w k n pc := z_zaldG F hw h0 (vp_in_nI hi hN) hd (by rw [zcl_n (by omega), hx]; exact kk)
theorem z_baldN (F : zFix X cc own ret nL d mc ms nw np) {p N : Nat} {f : Nat → Int32} {a : Nat} {x : Int32} (hw : w[p]? = some (.inr (.inl (3, N, .inl f)))) (hN : N < 2 ^ 31) (hi : a < N) (hx : f a = x) (hd : decode cc pc = .ok (.baload, 1))
    (kk : Z X L (zi x :: S) w k n (pc + 1)) : Z X L (zi (nI a) :: zr p 0 :: S) w k n pc := z_bald F hw (vp_in_nI hi hN) hd (by rw [zcl_n (by omega), hx]; exact kk)
theorem z_laldN (F : zFix X cc own ret nL d mc ms nw np) {p N : Nat} {f : Nat → Int64} {a : Nat} {x : Int64} (hw : w[p]? = some (.inr (.inl (1, N, .inr (.inl f))))) (hN : N < 2 ^ 31) (hi : a < N) (hx : f a = x) (hd : decode cc pc = .ok (.laload, 1))
    (kk : Z X L (zl x :: S) w k n (pc + 1)) : Z X L (zi (nI a) :: zr p 0 :: S) w k n pc := z_lald F hw (vp_in_nI hi hN) hd (by rw [zcl_n (by omega), hx]; exact kk)
theorem z_laldMN (F : zFix X cc own ret nL d mc ms nw np) {p t N m i0 : Nat} {M : Nat → Nat → Int64} {a : Nat} {x : Int64} (hw : w[p]? = some (zMl t 1 N m M)) (h0 : i0 < N) (hN : m < 2 ^ 31) (hi : a < m) (hx : M i0 a = x) (hd : decode cc pc = .ok (.laload, 1))
    (kk : Z X L (zl x :: S) w k n (pc + 1)) : Z X L (zi (nI a) :: zr p (i0 + 1) :: S) w k n pc := z_laldM F hw h0 (vp_in_nI hi hN) hd (by rw [zcl_n (by omega), hx]; exact kk)
theorem z_laldGN (F : zFix X cc own ret nL d mc ms nw np) {p N f : Nat} {Fv : Nat → Int32} {Gv : Nat → Int64} {Av : Nat → Nat → Int32} {Bv : Nat → Nat → Int64} {a : Nat} {x : Int64} (hw : w[p]? = some (zG Fv Gv Av Bv)) (h0 : zmT f = (3, 1, N)) (hN : N < 2 ^ 31) (hi : a < N) (hx : Bv f a = x) (hd : decode cc pc = .ok (.laload, 1))
    (kk : Z X L (zl x :: S) w k n (pc + 1)) : Z X L (zi (nI a) :: zr p (f + 1) :: S) w k n pc := z_laldG F hw h0 (vp_in_nI hi hN) hd (by rw [zcl_n (by omega), hx]; exact kk)
theorem z_iastN (F : zFix X cc own ret nL d mc ms nw np) {p N : Nat} {f : Nat → Int32} {a : Nat} {x : Int32} (hw : w[p]? = some (.inr (.inl (0, N, .inl f)))) (hN : N < 2 ^ 31) (hi : a < N) (hd : decode cc pc = .ok (.iastore, 1))
    (kk : Z X L S (w.set p (.inr (.inl (0, N, .inl (upd f a x))))) k n (pc + 1)) : Z X L (zi x :: zi (nI a) :: zr p 0 :: S) w k n pc := z_iast F hw (vp_in_nI hi hN) hd (by rw [zcl_n (by omega)]; exact kk)
theorem z_iastMN (F : zFix X cc own ret nL d mc ms nw np) {p t N m i0 : Nat} {M : Nat → Nat → Int32} {a : Nat} {x : Int32} (hw : w[p]? = some (zMi t 0 N m M)) (h0 : i0 < N) (hN : m < 2 ^ 31) (hi : a < m) (hd : decode cc pc = .ok (.iastore, 1))
    (kk : Z X L S (w.set p (zMi t 0 N m (zup2 M i0 a x))) k n (pc + 1)) : Z X L (zi x :: zi (nI a) :: zr p (i0 + 1) :: S) w k n pc := z_iastM F hw h0 (vp_in_nI hi hN) hd (by rw [zcl_n (by omega)]; exact kk)
theorem z_iastGN (F : zFix X cc own ret nL d mc ms nw np) {p N f : Nat} {Fv : Nat → Int32} {Gv : Nat → Int64} {Av : Nat → Nat → Int32} {Bv : Nat → Nat → Int64} {a : Nat} {x : Int32} (hw : w[p]? = some (zG Fv Gv Av Bv)) (h0 : zmT f = (2, 0, N)) (hN : N < 2 ^ 31) (hi : a < N) (hd : decode cc pc = .ok (.iastore, 1))
    (kk : Z X L S (w.set p (zG Fv Gv (zup2 Av f a x) Bv)) k n (pc + 1)) : Z X L (zi x :: zi (nI a) :: zr p (f + 1) :: S) w k n pc := z_iastG F hw h0 (vp_in_nI hi hN) hd (by rw [zcl_n (by omega)]; exact kk)
theorem z_zastN (F : zFix X cc own ret nL d mc ms nw np) {p N : Nat} {f : Nat → Int32} {a : Nat} {x : Int32} (hw : w[p]? = some (.inr (.inl (2, N, .inl f)))) (hN : N < 2 ^ 31) (hi : a < N) (hd : decode cc pc = .ok (.bastore, 1))
    (kk : Z X L S (w.set p (.inr (.inl (2, N, .inl (upd f a (vp_nar .boolean x)))))) k n (pc + 1)) : Z X L (zi x :: zi (nI a) :: zr p 0 :: S) w k n pc := z_zast F hw (vp_in_nI hi hN) hd (by rw [zcl_n (by omega)]; exact kk)
theorem z_zastMN (F : zFix X cc own ret nL d mc ms nw np) {p t N m i0 : Nat} {M : Nat → Nat → Int32} {a : Nat} {x : Int32} (hw : w[p]? = some (zMi t 2 N m M)) (h0 : i0 < N) (hN : m < 2 ^ 31) (hi : a < m) (hd : decode cc pc = .ok (.bastore, 1))
    (kk : Z X L S (w.set p (zMi t 2 N m (zup2 M i0 a (vp_nar .boolean x)))) k n (pc + 1)) : Z X L (zi x :: zi (nI a) :: zr p (i0 + 1) :: S) w k n pc := z_zastM F hw h0 (vp_in_nI hi hN) hd (by rw [zcl_n (by omega)]; exact kk)
theorem z_zastGN (F : zFix X cc own ret nL d mc ms nw np) {p N f : Nat} {Fv : Nat → Int32} {Gv : Nat → Int64} {Av : Nat → Nat → Int32} {Bv : Nat → Nat → Int64} {a : Nat} {x : Int32} (hw : w[p]? = some (zG Fv Gv Av Bv)) (h0 : zmT f = (2, 2, N)) (hN : N < 2 ^ 31) (hi : a < N) (hd : decode cc pc = .ok (.bastore, 1))
    (kk : Z X L S (w.set p (zG Fv Gv (zup2 Av f a (vp_nar .boolean x)) Bv)) k n (pc + 1)) : Z X L (zi x :: zi (nI a) :: zr p (f + 1) :: S) w k n pc := z_zastG F hw h0 (vp_in_nI hi hN) hd (by rw [zcl_n (by omega)]; exact kk)
theorem z_bastN (F : zFix X cc own ret nL d mc ms nw np) {p N : Nat} {f : Nat → Int32} {a : Nat} {x : Int32} (hw : w[p]? = some (.inr (.inl (3, N, .inl f)))) (hN : N < 2 ^ 31) (hi : a < N) (hd : decode cc pc = .ok (.bastore, 1))
    (kk : Z X L S (w.set p (.inr (.inl (3, N, .inl (upd f a (vp_nar .byte x)))))) k n (pc + 1)) : Z X L (zi x :: zi (nI a) :: zr p 0 :: S) w k n pc := z_bast F hw (vp_in_nI hi hN) hd (by rw [zcl_n (by omega)]; exact kk)
theorem z_lastN (F : zFix X cc own ret nL d mc ms nw np) {p N : Nat} {f : Nat → Int64} {a : Nat} {x : Int64} (hw : w[p]? = some (.inr (.inl (1, N, .inr (.inl f))))) (hN : N < 2 ^ 31) (hi : a < N) (hd : decode cc pc = .ok (.lastore, 1))
    (kk : Z X L S (w.set p (.inr (.inl (1, N, .inr (.inl (vp_updL f a x)))))) k n (pc + 1)) : Z X L (zl x :: zi (nI a) :: zr p 0 :: S) w k n pc := z_last F hw (vp_in_nI hi hN) hd (by rw [zcl_n (by omega)]; exact kk)
theorem z_lastMN (F : zFix X cc own ret nL d mc ms nw np) {p t N m i0 : Nat} {M : Nat → Nat → Int64} {a : Nat} {x : Int64} (hw : w[p]? = some (zMl t 1 N m M)) (h0 : i0 < N) (hN : m < 2 ^ 31) (hi : a < m) (hd : decode cc pc = .ok (.lastore, 1))
    (kk : Z X L S (w.set p (zMl t 1 N m (zup2 M i0 a x))) k n (pc + 1)) : Z X L (zl x :: zi (nI a) :: zr p (i0 + 1) :: S) w k n pc := z_lastM F hw h0 (vp_in_nI hi hN) hd (by rw [zcl_n (by omega)]; exact kk)
theorem z_lastGN (F : zFix X cc own ret nL d mc ms nw np) {p N f : Nat} {Fv : Nat → Int32} {Gv : Nat → Int64} {Av : Nat → Nat → Int32} {Bv : Nat → Nat → Int64} {a : Nat} {x : Int64} (hw : w[p]? = some (zG Fv Gv Av Bv)) (h0 : zmT f = (3, 1, N)) (hN : N < 2 ^ 31) (hi : a < N) (hd : decode cc pc = .ok (.lastore, 1))
    (kk : Z X L S (w.set p (zG Fv Gv Av (zup2 Bv f a x))) k n (pc + 1)) : Z X L (zl x :: zi (nI a) :: zr p (f + 1) :: S) w k n pc := z_lastG F hw h0 (vp_in_nI hi hN) hd (by rw [zcl_n (by omega)]; exact kk)
theorem z_aaldMN (F : zFix X cc own ret nL d mc ms nw np) {p N t te m : Nat} {c : (Nat → Nat → Int32) ⊕ (Nat → Nat → Int64)} {a : Nat} (hw : w[p]? = some (.inr (.inr (.inl (t, te, N, m, c))))) (ht : t = 4 ∨ t = 5 ∨ t = 6) (hN : N < 2 ^ 31) (hi : a < N) (hd : decode cc pc = .ok (.aaload, 1))
    (kk : Z X L (zr p (a + 1) :: S) w k n (pc + 1)) : Z X L (zi (nI a) :: zr p 0 :: S) w k n pc := z_aaldM F hw ht (vp_in_nI hi hN) hd (by rw [zcl_n (by omega)]; exact kk)
theorem z_alenN (F : zFix X cc own ret nL d mc ms nw np) {p N t : Nat} {c : zC} {ty : FieldType} (ht : ∀ cA : Nat → ClassId, (zts cA)[t]? = some (cA t, ty)) (hw : w[p]? = some (.inr (.inl (t, N, c)))) (hd : decode cc pc = .ok (.arraylength, 1))
    (kk : Z X L (zi (nI N) :: S) w k n (pc + 1)) : Z X L (zr p 0 :: S) w k n pc := z_alen F ht (nI N) rfl hw hd kk
/-- where nothing catches: the exception leaves, with what the method had at its start and the exception itself behind -/
theorem zx_out (F : zFix X cc own ret nL d mc ms nw np) {post : Option zV → List zE → Prop} {xpost : String → List zE → Prop} (E : zEnd X post xpost mc ms) (hno : zNoH X) {Ex : String} (hk : k ≤ mc) (hn : n ≤ ms) (hp : xpost Ex w) : ZX X L w k n pc Ex nw := fun ad H locs ls st ce h0 h1 h2 h3 h4 h5 h6 h7 => by
  have hw0 : X.2.2.2.2.2.2.length = nw := F.2.2.2.2.2.2.2.2.2.2.2.1
  have hq : ∀ t : State, t.heap = H → X.1.2.2.2.2.1.vm.Alike t.vm → zXC X.2.2.1 X.2.2.2.1 X.2.2.2.2.2.1 X.2.2.2.2.2.2 X.1.2.2.2.2.1.heap.size xpost Ex (ad nw 0) X.1.2.2.2.2.1 t := fun t ht _ => by
    rw [E.2] at h2 h3
    exact ⟨⟨w, ad, hp, h0, by rw [ht]; exact h1, h2, by rw [hw0]⟩, h3.F ht⟩
  rw [E.1]
  exact vx_out (fun x hx => (hno x hx).elim) F.2.2.2.2.2.2.1 h5 h6 h7 hq (fun q hq => by have := h3.2.2 q hq; rwa [E.2] at this) hk hn
/-- the same from a place further behind: only the entries of the start, and what lies at pe -/
theorem zx_cut {pe : Nat} {Ex : String} {m : Nat} (hm : m ≤ pe) (hm0 : 0 < m) (hX : X.2.2.2.2.2.2.length ≤ m) (w' : List zE) (hw' : w' = w.take m) (hwf : zwf m w') (hL : L.all (zoN m) = true) (kk : ZX X L w' k n pc Ex m) : ZX X L w k n pc Ex pe := fun ad H locs ls st ce h0 h1 h2 h3 h4 h5 h6 h7 => by
  have hlo : ∀ p j, p < m → zad1 ad m (ad pe 0) p j = ad p j := zad1_lo
  have hat : ∀ p j c, zat w' p j = some c → zat w p j = some c ∧ p < m := fun p j c h => by
    subst hw'
    obtain ⟨e, a1, a2⟩ := zat_e h
    rw [List.getElem?_take] at a1
    split at a1
    · exact ⟨by simp only [zat, a1]; exact a2, by assumption⟩
    · cases a1
  have hh := kk (zad1 ad m (ad pe 0)) H locs ls st ce (fun p j hp hl => by rw [hlo p j (by omega)]; exact h0 p j hp hl)
    (fun p j c h => by
      obtain ⟨a1, a2⟩ := hat p j c h
      obtain ⟨e, b1, b2⟩ := zat_e h
      rw [hlo p j a2, zcell_p a2 (zwf_mem hwf e (List.mem_of_getElem? b1)) b2 hlo]
      exact h1 p j c a1)
    ⟨fun p j p' j' c c' a b he => by
      obtain ⟨a1, a2⟩ := hat p j c a
      obtain ⟨b1, b2⟩ := hat p' j' c' b
      rw [hlo p j a2, hlo p' j' b2] at he
      exact h2.1 _ _ _ _ _ _ a1 b1 he, fun p j c a => by
      obtain ⟨a1, a2⟩ := hat p j c a
      rw [hlo p j a2]
      exact h2.2 _ _ _ a1⟩ h3 (by unfold zLh; rw [zal_eq hlo hL]; exact h4)
  have e : zad1 ad m (ad pe 0) m 0 = ad pe 0 := by simp [zad1]
  rw [e] at hh
  exact hh h5 h6 h7
end ZN1
