def zCl (ci : Nat) (C : String) (T : u_T) (N : Nat) (ty0 : Nat → FieldType) : Prop := zcl[ci]? = some (C, T, N) ∧ (∀ x ∈ u_ws C T N, x ∈ lw_all) ∧ (∀ k, k < N → parseFieldDescriptor (T k).2.2.1 = some (ty0 k)) ∧ ∀ a, a < N → ∀ b, b < N → a ≠ b → (T a).2.1 ≠ (T b).2.1
theorem zC1 : zCl 1 RX1 TX1 9 tyX1 := ⟨rfl, in_X1, tyX1_ok, nmX1⟩
theorem zC2 : zCl 2 RX2 TX2 4 tyX2 := ⟨rfl, in_X2, tyX2_ok, nmX2⟩
theorem zC3 : zCl 3 RX3 TX3 4 tyX3 := ⟨rfl, in_X3, tyX3_ok, nmX3⟩
theorem zC4 : zCl 4 RX4 TX4 14 tyX4 := ⟨rfl, in_X4, tyX4_ok, nmX4⟩
theorem zC5 : zCl 5 RX5 TX5 3 tyX5 := ⟨rfl, in_X5, tyX5_ok, nmX5⟩
theorem zC6 : zCl 6 RX6 TX6 75 tyX6 := ⟨rfl, in_X6, tyX6_ok, nmX6⟩
theorem zC7 : zCl 7 RX7 TX7 11 tyX7 := ⟨rfl, in_X7, tyX7_ok, nmX7⟩
theorem zC8 : zCl 8 RX8 TX8 7 tyX8 := ⟨rfl, in_X8, tyX8_ok, nmX8⟩
theorem zC9 : zCl 9 RX9 TX9 3 tyX9 := ⟨rfl, in_X9, tyX9_ok, nmX9⟩
theorem zC11 : zCl 11 RX11 TX11 11 tyX11 := ⟨rfl, in_X11, tyX11_ok, nmX11⟩
theorem zC12 : zCl 12 RX12 TX12 6 tyX12 := ⟨rfl, in_X12, tyX12_ok, nmX12⟩
theorem zC13 : zCl 13 RX13 TX13 9 tyX13 := ⟨rfl, in_X13, tyX13_ok, nmX13⟩
theorem zC14 : zCl 14 RX14 TX14 3 tyX14 := ⟨rfl, in_X14, tyX14_ok, nmX14⟩
theorem zCL : zCl 15 RJ2 TJ2 3 tyJ2 := ⟨rfl, in_J2, tyJ2_ok, nmJ2⟩
theorem zCI : zCl 16 RJ8 TJ8 1 tyJ8 := ⟨rfl, in_J8, tyJ8_ok, nmJ8⟩
def zup2 {α : Type} (M : Nat → Nat → α) (i j : Nat) (x : α) : Nat → Nat → α := fun a b => if a = i then (if b = j then x else M a b) else M a b
theorem zts_ok (cA : Nat → ClassId) : (zts cA)[0]? = some (cA 0, .int) ∧ (zts cA)[1]? = some (cA 1, .long) ∧ (zts cA)[2]? = some (cA 2, .boolean) ∧ (zts cA)[3]? = some (cA 3, .byte) := ⟨rfl, rfl, rfl, rfl⟩
theorem zmF_get {p : Nat} {b : zB} {f : Nat} (hf : f < 75) : ((List.range 75).map (zmF p b))[f]? = some (zmF p b f) := by simp [hf]
theorem zat_G0 {w : List zE} {p : Nat} {b : zB} (hw : w[p]? = some (.inr (.inr (.inr (.inl b))))) : zat w p 0 = some (.inl (6, (List.range 75).map (zmF p b))) := by simp [zat, hw, zcell]
theorem zat_GA {w : List zE} {p : Nat} {b : zB} (hw : w[p]? = some (.inr (.inr (.inr (.inl b))))) {f t N : Nat} (h : zmT f = (2, t, N)) : zat w p (f + 1) = some (.inr (t, N, .inl (b.2.2.1 f))) := by simp [zat, hw, zcell, zmA, h]
theorem zat_GB {w : List zE} {p : Nat} {b : zB} (hw : w[p]? = some (.inr (.inr (.inr (.inl b))))) {f t N : Nat} (h : zmT f = (3, t, N)) : zat w p (f + 1) = some (.inr (t, N, .inr (.inl (b.2.2.2 f)))) := by simp [zat, hw, zcell, zmA, h]
theorem zat_Mi {w : List zE} {p t te n m : Nat} {M : Nat → Nat → Int32} (hw : w[p]? = some (zMi t te n m M)) {i : Nat} (h : i < n) : zat w p (i + 1) = some (.inr (te, m, .inl (M i))) := by simp [zat, hw, zcell, h]
theorem zat_Ml {w : List zE} {p t te n m : Nat} {M : Nat → Nat → Int64} (hw : w[p]? = some (zMl t te n m M)) {i : Nat} (h : i < n) : zat w p (i + 1) = some (.inr (te, m, .inr (.inl (M i)))) := by simp [zat, hw, zcell, h]
theorem zcell_Gset {p : Nat} {b b' : zB} {j : Nat} (h0 : j ≠ 0 → zmA b' (j - 1) = zmA b (j - 1)) (h1 : j = 0 → ∀ k, zmF p b' k = zmF p b k) : zcell p (.inr (.inr (.inr (.inl b')))) j = zcell p (.inr (.inr (.inr (.inl b)))) j := by
  cases j with
  | zero => simp only [zcell]; rw [List.map_congr_left (fun k _ => h1 rfl k)]
  | succ k => exact h0 (by omega)
section ZH2
variable {X : zX} {cc : ByteArray} {own : String} {ret : Option FieldType} {nL d mc ms nw : Nat} {np : Bool} {L : List (Option zV)} {S : List zV} {w : List zE} {k n pc : Nat}
theorem z_getC (F : zFix X cc own ret nL d mc ms nw np) {p j ci N idx f : Nat} {fs : List zV} {C : String} {T : u_T} {ty0 : Nat → FieldType} {v : zV} (hC : zCl ci C T N ty0) (hz : zat w p j = some (.inl (ci, fs))) (hf : f < N) (hlink : Cond.fieldLink own idx (T f).1 (T f).2.1 (T f).2.2.1 ∈ lw_all) (hv : fs[f]? = some v) (hd : decode cc pc = .ok (.getfield idx, 3))
    (kk : Z X L (v :: S) w k n (pc + 3)) : Z X L (zr p j :: S) w k n pc := fun ad H locs ls h0 h1 h2 h3 h4 =>
  va_get (v := zcv ad v) (fs := fs.map (zcv ad)) F.1 F.2.1 F.2.2.2.1 hC.2.1 F.2.2.1 F.2.2.2.2.1 (zsing (h1 p j _ hz)) 0 rfl hC.1 f hf (F.2.2.2.1 _ hlink) (fun _ h => h) (by simp [hv]) hd (kk ad H locs ls h0 h1 h2 h3 h4)
theorem z_getCN (F : zFix X cc own ret nL d mc ms nw np) {p j ci N idx f : Nat} {fs : List zV} {C host : String} {T : u_T} {ty0 : Nat → FieldType} {v : zV} (hC : zCl ci C T N ty0) (hz : zat w p j = some (.inl (ci, fs))) (hf : f < N) (hlink : Cond.fieldLinkNest own idx (T f).1 (T f).2.1 (T f).2.2.1 host ∈ lw_tbl) (hv : fs[f]? = some v) (hd : decode cc pc = .ok (.getfield idx, 3))
    (kk : Z X L (v :: S) w k n (pc + 3)) : Z X L (zr p j :: S) w k n pc := fun ad H locs ls h0 h1 h2 h3 h4 =>
  va_getN (v := zcv ad v) (fs := fs.map (zcv ad)) F.1 F.2.1 F.2.2.2.1 hC.2.1 F.2.2.1 F.2.2.2.2.1 (zsing (h1 p j _ hz)) 0 rfl hC.1 f hf (va_Nw.use rfl (F.2.2.2.2.2.2.2.2.2.2.1.2.1 _ (zNest_of hlink rfl))) (fun _ h => h) (by simp [hv]) hd (kk ad H locs ls h0 h1 h2 h3 h4)
theorem z_putE (F : zFix X cc own ret nL d mc ms nw np) {p j ci N idx f : Nat} {fs : List zV} {C : String} {T : u_T} {ty0 : Nat → FieldType} {v : zV} {w' : List zE} (hC : zCl ci C T N ty0) (hz : zat w p j = some (.inl (ci, fs))) (hf : f < N) (hlink : Cond.fieldLink own idx (T f).1 (T f).2.1 (T f).2.2.1 ∈ lw_all) (hfin : (T f).2.2.2 = false) (hn : ∀ ad, narrow (ty0 f) (zcv ad v) = zcv ad v) (hfit : ∀ ad, fits (ty0 f) (zcv ad v) = true) (hl : f < fs.length) (hu : zUpd w p j (.inl (ci, fs.set f v)) w') (hd : decode cc pc = .ok (.putfield idx, 3))
    (kk : Z X L S w' k n (pc + 3)) : Z X L (v :: zr p j :: S) w k n pc := fun ad H locs ls h0 h1 h2 h3 h4 =>
  vy_put (v := zcv ad v) (fs := fs.map (zcv ad)) F.1 F.2.1 F.2.2.2.1 hC.2.1 ty0 hC.2.2.1 hC.2.2.2 F.2.2.1 F.2.2.2.2.1 (h2.2 p j _ hz) h3 (h1 p j _ hz) hC.1 f hf (F.2.2.2.1 _ hlink) (fun _ h => h) hfin (hC.2.2.1 f hf) (hn ad) (hfit ad) (by simpa using hl) hd
    (fun H1 locs1 e1 e2 e3 => kk ad H1 locs1 ls h0 (hu.rel h2 h1 (by simpa [zcc, List.map_set] using e1) e2) (hu.inj h2) e3 h4)
theorem z_putFE (F : zFix X cc own ret nL d mc ms nw np) {p j ci N idx f : Nat} {fs : List zV} {C : String} {T : u_T} {ty0 : Nat → FieldType} {v : zV} {w' : List zE} (hC : zCl ci C T N ty0) (hz : zat w p j = some (.inl (ci, fs))) (hf : f < N) (hlink : Cond.fieldLink own idx (T f).1 (T f).2.1 (T f).2.2.1 ∈ lw_all) (hfin : (T f).2.2.2 = true) (hin : X.1.2.2.2.2.2.2.2.2.1.name = "<init>") (hdecl : (T f).1 = own) (hn : ∀ ad, narrow (ty0 f) (zcv ad v) = zcv ad v) (hfit : ∀ ad, fits (ty0 f) (zcv ad v) = true) (hl : f < fs.length) (hu : zUpd w p j (.inl (ci, fs.set f v)) w') (hd : decode cc pc = .ok (.putfield idx, 3))
    (kk : Z X L S w' k n (pc + 3)) : Z X L (v :: zr p j :: S) w k n pc := fun ad H locs ls h0 h1 h2 h3 h4 =>
  vy_putF (v := zcv ad v) (fs := fs.map (zcv ad)) F.1 F.2.1 F.2.2.2.1 hC.2.1 ty0 hC.2.2.1 hC.2.2.2 F.2.2.1 F.2.2.2.2.1 (h2.2 p j _ hz) h3 (h1 p j _ hz) hC.1 f hf (F.2.2.2.1 _ hlink) (fun _ h => h) hfin hin hdecl (hC.2.2.1 f hf) (hn ad) (hfit ad) (by simpa using hl) hd
    (fun H1 locs1 e1 e2 e3 => kk ad H1 locs1 ls h0 (hu.rel h2 h1 (by simpa [zcc, List.map_set] using e1) e2) (hu.inj h2) e3 h4)
theorem z_putNE (F : zFix X cc own ret nL d mc ms nw np) {p j ci N idx f : Nat} {fs : List zV} {C host : String} {T : u_T} {ty0 : Nat → FieldType} {v : zV} {w' : List zE} (hC : zCl ci C T N ty0) (hz : zat w p j = some (.inl (ci, fs))) (hf : f < N) (hlink : Cond.fieldLinkNest own idx (T f).1 (T f).2.1 (T f).2.2.1 host ∈ lw_tbl) (hfin : (T f).2.2.2 = false) (hn : ∀ ad, narrow (ty0 f) (zcv ad v) = zcv ad v) (hfit : ∀ ad, fits (ty0 f) (zcv ad v) = true) (hl : f < fs.length) (hu : zUpd w p j (.inl (ci, fs.set f v)) w') (hd : decode cc pc = .ok (.putfield idx, 3))
    (kk : Z X L S w' k n (pc + 3)) : Z X L (v :: zr p j :: S) w k n pc := fun ad H locs ls h0 h1 h2 h3 h4 =>
  vy_putN (v := zcv ad v) (fs := fs.map (zcv ad)) F.1 F.2.1 F.2.2.2.1 hC.2.1 ty0 hC.2.2.1 hC.2.2.2 F.2.2.1 F.2.2.2.2.1 (h2.2 p j _ hz) h3 (h1 p j _ hz) hC.1 f hf (va_Nw.use rfl (F.2.2.2.2.2.2.2.2.2.2.1.2.1 _ (zNest_of hlink rfl))) (fun _ h => h) hfin (hC.2.2.1 f hf) (hn ad) (hfit ad) (by simpa using hl) hd
    (fun H1 locs1 e1 e2 e3 => kk ad H1 locs1 ls h0 (hu.rel h2 h1 (by simpa [zcc, List.map_set] using e1) e2) (hu.inj h2) e3 h4)
theorem zUpd_O {w : List zE} {p ci : Nat} {fs fs' : List zV} (hw : w[p]? = some (zO ci fs)) : zUpd w p 0 (.inl (ci, fs')) (w.set p (zO ci fs')) := zUpd_of hw rfl rfl (fun j hj => by simp [zcell, hj])
theorem zUpd_A {w : List zE} {p t N : Nat} {c c' : zC} (hw : w[p]? = some (.inr (.inl (t, N, c)))) : zUpd w p 0 (.inr (t, N, c')) (w.set p (.inr (.inl (t, N, c')))) := zUpd_of hw rfl rfl (fun j hj => by simp [zcell, hj])
theorem z_get (F : zFix X cc own ret nL d mc ms nw np) {p ci N idx f : Nat} {fs : List zV} {C : String} {T : u_T} {ty0 : Nat → FieldType} {v : zV} (hC : zCl ci C T N ty0) (hw : w[p]? = some (zO ci fs)) (hf : f < N) (hlink : Cond.fieldLink own idx (T f).1 (T f).2.1 (T f).2.2.1 ∈ lw_all) (hv : fs[f]? = some v) (hd : decode cc pc = .ok (.getfield idx, 3))
    (kk : Z X L (v :: S) w k n (pc + 3)) : Z X L (zr p 0 :: S) w k n pc := z_getC F hC (by simp [zat, hw, zcell]) hf hlink hv hd kk
theorem z_getN (F : zFix X cc own ret nL d mc ms nw np) {p ci N idx f : Nat} {fs : List zV} {C host : String} {T : u_T} {ty0 : Nat → FieldType} {v : zV} (hC : zCl ci C T N ty0) (hw : w[p]? = some (zO ci fs)) (hf : f < N) (hlink : Cond.fieldLinkNest own idx (T f).1 (T f).2.1 (T f).2.2.1 host ∈ lw_tbl) (hv : fs[f]? = some v) (hd : decode cc pc = .ok (.getfield idx, 3))
    (kk : Z X L (v :: S) w k n (pc + 3)) : Z X L (zr p 0 :: S) w k n pc := z_getCN F hC (by simp [zat, hw, zcell]) hf hlink hv hd kk
theorem z_put (F : zFix X cc own ret nL d mc ms nw np) {p ci N idx f : Nat} {fs : List zV} {C : String} {T : u_T} {ty0 : Nat → FieldType} {v : zV} (hC : zCl ci C T N ty0) (hw : w[p]? = some (zO ci fs)) (hf : f < N) (hlink : Cond.fieldLink own idx (T f).1 (T f).2.1 (T f).2.2.1 ∈ lw_all) (hfin : (T f).2.2.2 = false) (hn : ∀ ad, narrow (ty0 f) (zcv ad v) = zcv ad v) (hfit : ∀ ad, fits (ty0 f) (zcv ad v) = true) (hl : f < fs.length) (hd : decode cc pc = .ok (.putfield idx, 3))
    (kk : Z X L S (w.set p (zO ci (fs.set f v))) k n (pc + 3)) : Z X L (v :: zr p 0 :: S) w k n pc := z_putE F hC (by simp [zat, hw, zcell]) hf hlink hfin hn hfit hl (zUpd_O hw) hd kk
theorem z_putN (F : zFix X cc own ret nL d mc ms nw np) {p ci N idx f : Nat} {fs : List zV} {C host : String} {T : u_T} {ty0 : Nat → FieldType} {v : zV} (hC : zCl ci C T N ty0) (hw : w[p]? = some (zO ci fs)) (hf : f < N) (hlink : Cond.fieldLinkNest own idx (T f).1 (T f).2.1 (T f).2.2.1 host ∈ lw_tbl) (hfin : (T f).2.2.2 = false) (hn : ∀ ad, narrow (ty0 f) (zcv ad v) = zcv ad v) (hfit : ∀ ad, fits (ty0 f) (zcv ad v) = true) (hl : f < fs.length) (hd : decode cc pc = .ok (.putfield idx, 3))
    (kk : Z X L S (w.set p (zO ci (fs.set f v))) k n (pc + 3)) : Z X L (v :: zr p 0 :: S) w k n pc := z_putNE F hC (by simp [zat, hw, zcell]) hf hlink hfin hn hfit hl (zUpd_O hw) hd kk
theorem z_putF (F : zFix X cc own ret nL d mc ms nw np) {p ci N idx f : Nat} {fs : List zV} {C : String} {T : u_T} {ty0 : Nat → FieldType} {v : zV} (hC : zCl ci C T N ty0) (hw : w[p]? = some (zO ci fs)) (hf : f < N) (hlink : Cond.fieldLink own idx (T f).1 (T f).2.1 (T f).2.2.1 ∈ lw_all) (hfin : (T f).2.2.2 = true) (hin : X.1.2.2.2.2.2.2.2.2.1.name = "<init>") (hdecl : (T f).1 = own) (hn : ∀ ad, narrow (ty0 f) (zcv ad v) = zcv ad v) (hfit : ∀ ad, fits (ty0 f) (zcv ad v) = true) (hl : f < fs.length) (hd : decode cc pc = .ok (.putfield idx, 3))
    (kk : Z X L S (w.set p (zO ci (fs.set f v))) k n (pc + 3)) : Z X L (v :: zr p 0 :: S) w k n pc := z_putFE F hC (by simp [zat, hw, zcell]) hf hlink hfin hin hdecl hn hfit hl (zUpd_O hw) hd kk
/-! the reference's own fields -/
theorem z_mi (F : zFix X cc RX6 ret nL d mc ms nw np) {p idx f : Nat} {Fv : Nat → Int32} {Gv : Nat → Int64} {Av : Nat → Nat → Int32} {Bv : Nat → Nat → Int64} (hw : w[p]? = some (zG Fv Gv Av Bv)) (f0 : Nat) (hf0 : f0 = f) (hf : f < 75) (ht : (zmT f).1 = 0) (hlink : Cond.fieldLink RX6 idx (TX6 f).1 (TX6 f).2.1 (TX6 f).2.2.1 ∈ lw_all) (hd : decode cc pc = .ok (.getfield idx, 3))
    (kk : Z X L (zi (Fv f) :: S) w k n (pc + 3)) : Z X L (zr p 0 :: S) w k n pc := z_getC F zC6 (zat_G0 hw) hf hlink ((zmF_get hf).trans (by simp [zmF, ht])) hd kk
theorem z_ml (F : zFix X cc RX6 ret nL d mc ms nw np) {p idx f : Nat} {Fv : Nat → Int32} {Gv : Nat → Int64} {Av : Nat → Nat → Int32} {Bv : Nat → Nat → Int64} (hw : w[p]? = some (zG Fv Gv Av Bv)) (f0 : Nat) (hf0 : f0 = f) (hf : f < 75) (ht : (zmT f).1 = 1) (hlink : Cond.fieldLink RX6 idx (TX6 f).1 (TX6 f).2.1 (TX6 f).2.2.1 ∈ lw_all) (hd : decode cc pc = .ok (.getfield idx, 3))
    (kk : Z X L (zl (Gv f) :: S) w k n (pc + 3)) : Z X L (zr p 0 :: S) w k n pc := z_getC F zC6 (zat_G0 hw) hf hlink ((zmF_get hf).trans (by simp [zmF, ht])) hd kk
theorem z_ma (F : zFix X cc RX6 ret nL d mc ms nw np) {p idx f u : Nat} {Fv : Nat → Int32} {Gv : Nat → Int64} {Av : Nat → Nat → Int32} {Bv : Nat → Nat → Int64} (hw : w[p]? = some (zG Fv Gv Av Bv)) (f0 : Nat) (hf0 : f0 = f) (hf : f < 75) (ht : (zmT f).1 = u + 2) (hlink : Cond.fieldLink RX6 idx (TX6 f).1 (TX6 f).2.1 (TX6 f).2.2.1 ∈ lw_all) (hd : decode cc pc = .ok (.getfield idx, 3))
    (kk : Z X L (zr p (f + 1) :: S) w k n (pc + 3)) : Z X L (zr p 0 :: S) w k n pc := z_getC F zC6 (zat_G0 hw) hf hlink ((zmF_get hf).trans (by simp [zmF, ht])) hd kk
theorem zG_setF {p f : Nat} {b b' : zB} (hf : f < 75) (v : zV) (hv : zmF p b' f = v) (ho : ∀ j, j ≠ f → zmF p b' j = zmF p b j) : ((List.range 75).map (zmF p b)).set f v = (List.range 75).map (zmF p b') := by
  refine List.ext_getElem? fun j => ?_
  by_cases hj : j = f
  · subst hj
    simp [List.getElem?_set, hf, hv]
  · rw [List.getElem?_set_ne (fun q => hj q.symm)]
    simp only [List.getElem?_map]
    by_cases hl : j < 75
    · simp [hl, ho j hj]
    · simp [hl]
theorem z_pmi (F : zFix X cc RX6 ret nL d mc ms nw np) {p idx f : Nat} {x : Int32} {Fv : Nat → Int32} {Gv : Nat → Int64} {Av : Nat → Nat → Int32} {Bv : Nat → Nat → Int64} (hw : w[p]? = some (zG Fv Gv Av Bv)) (f0 : Nat) (hf0 : f0 = f) (hf : f < 75) (ht : (zmT f).1 = 0) (hlink : Cond.fieldLink RX6 idx (TX6 f).1 (TX6 f).2.1 (TX6 f).2.2.1 ∈ lw_all) (hfin : (TX6 f).2.2.2 = false) (hn : narrow (tyX6 f) (.int x) = .int x) (hfit : fits (tyX6 f) (.int x) = true) (hd : decode cc pc = .ok (.putfield idx, 3))
    (kk : Z X L S (w.set p (zG (upd Fv f x) Gv Av Bv)) k n (pc + 3)) : Z X L (zi x :: zr p 0 :: S) w k n pc :=
  z_putE F zC6 (zat_G0 hw) hf hlink hfin (fun _ => hn) (fun _ => hfit) (by simpa using hf) (by
    rw [zG_setF (b' := (upd Fv f x, Gv, Av, Bv)) hf (zi x) (by simp [zmF, ht, upd]) (fun j hj => by simp [zmF, upd, hj])]
    exact zUpd_of hw rfl rfl (fun j hj => zcell_Gset (fun _ => rfl) (fun q => absurd q hj))) hd kk
theorem z_pml (F : zFix X cc RX6 ret nL d mc ms nw np) {p idx f : Nat} {x : Int64} {Fv : Nat → Int32} {Gv : Nat → Int64} {Av : Nat → Nat → Int32} {Bv : Nat → Nat → Int64} (hw : w[p]? = some (zG Fv Gv Av Bv)) (f0 : Nat) (hf0 : f0 = f) (hf : f < 75) (ht : (zmT f).1 = 1) (hlink : Cond.fieldLink RX6 idx (TX6 f).1 (TX6 f).2.1 (TX6 f).2.2.1 ∈ lw_all) (hfin : (TX6 f).2.2.2 = false) (hn : narrow (tyX6 f) (.long x) = .long x) (hfit : fits (tyX6 f) (.long x) = true) (hd : decode cc pc = .ok (.putfield idx, 3))
    (kk : Z X L S (w.set p (zG Fv (vp_updL Gv f x) Av Bv)) k n (pc + 3)) : Z X L (zl x :: zr p 0 :: S) w k n pc :=
  z_putE F zC6 (zat_G0 hw) hf hlink hfin (fun _ => hn) (fun _ => hfit) (by simpa using hf) (by
    rw [zG_setF (b' := (Fv, vp_updL Gv f x, Av, Bv)) hf (zl x) (by simp [zmF, ht, vp_updL]) (fun j hj => by simp [zmF, vp_updL, hj])]
    exact zUpd_of hw rfl rfl (fun j hj => zcell_Gset (fun _ => rfl) (fun q => absurd q hj))) hd kk

theorem z_ialdC (F : zFix X cc own ret nL d mc ms nw np) {p j N : Nat} {f : Nat → Int32} {i : Int32} (hz : zat w p j = some (.inr (0, N, .inl f))) (hi : vp_in i N) (hd : decode cc pc = .ok (.iaload, 1))
    (kk : Z X L (zi (f i.toNatClampNeg) :: S) w k n (pc + 1)) : Z X L (zi i :: zr p j :: S) w k n pc := fun ad H locs ls h0 h1 h2 h3 h4 =>
  va_iald F.1 F.2.1 F.2.2.2.2.1 (zsing (h1 p j _ hz)) 0 0 rfl rfl hi hd (kk ad H locs ls h0 h1 h2 h3 h4)
theorem z_iald (F : zFix X cc own ret nL d mc ms nw np) {p N : Nat} {f : Nat → Int32} {i : Int32} (hw : w[p]? = some (.inr (.inl (0, N, .inl f)))) (hi : vp_in i N) (hd : decode cc pc = .ok (.iaload, 1))
    (kk : Z X L (zi (f i.toNatClampNeg) :: S) w k n (pc + 1)) : Z X L (zi i :: zr p 0 :: S) w k n pc := z_ialdC F (by simp [zat, hw, zcell]) hi hd kk
theorem z_zaldC (F : zFix X cc own ret nL d mc ms nw np) {p j N : Nat} {f : Nat → Int32} {i : Int32} (hz : zat w p j = some (.inr (2, N, .inl f))) (hi : vp_in i N) (hd : decode cc pc = .ok (.baload, 1))
    (kk : Z X L (zi (f i.toNatClampNeg) :: S) w k n (pc + 1)) : Z X L (zi i :: zr p j :: S) w k n pc := fun ad H locs ls h0 h1 h2 h3 h4 =>
  va_zald F.1 F.2.1 F.2.2.2.2.1 (zsing (h1 p j _ hz)) 0 2 rfl rfl hi hd (kk ad H locs ls h0 h1 h2 h3 h4)
theorem z_zald (F : zFix X cc own ret nL d mc ms nw np) {p N : Nat} {f : Nat → Int32} {i : Int32} (hw : w[p]? = some (.inr (.inl (2, N, .inl f)))) (hi : vp_in i N) (hd : decode cc pc = .ok (.baload, 1))
    (kk : Z X L (zi (f i.toNatClampNeg) :: S) w k n (pc + 1)) : Z X L (zi i :: zr p 0 :: S) w k n pc := z_zaldC F (by simp [zat, hw, zcell]) hi hd kk
theorem z_baldC (F : zFix X cc own ret nL d mc ms nw np) {p j N : Nat} {f : Nat → Int32} {i : Int32} (hz : zat w p j = some (.inr (3, N, .inl f))) (hi : vp_in i N) (hd : decode cc pc = .ok (.baload, 1))
    (kk : Z X L (zi (f i.toNatClampNeg) :: S) w k n (pc + 1)) : Z X L (zi i :: zr p j :: S) w k n pc := fun ad H locs ls h0 h1 h2 h3 h4 =>
  va_bald F.1 F.2.1 F.2.2.2.2.1 (zsing (h1 p j _ hz)) 0 3 rfl rfl hi hd (kk ad H locs ls h0 h1 h2 h3 h4)
theorem z_bald (F : zFix X cc own ret nL d mc ms nw np) {p N : Nat} {f : Nat → Int32} {i : Int32} (hw : w[p]? = some (.inr (.inl (3, N, .inl f)))) (hi : vp_in i N) (hd : decode cc pc = .ok (.baload, 1))
    (kk : Z X L (zi (f i.toNatClampNeg) :: S) w k n (pc + 1)) : Z X L (zi i :: zr p 0 :: S) w k n pc := z_baldC F (by simp [zat, hw, zcell]) hi hd kk
theorem z_laldC (F : zFix X cc own ret nL d mc ms nw np) {p j N : Nat} {f : Nat → Int64} {i : Int32} (hz : zat w p j = some (.inr (1, N, .inr (.inl f)))) (hi : vp_in i N) (hd : decode cc pc = .ok (.laload, 1))
    (kk : Z X L (zl (f i.toNatClampNeg) :: S) w k n (pc + 1)) : Z X L (zi i :: zr p j :: S) w k n pc := fun ad H locs ls h0 h1 h2 h3 h4 =>
  va_lald F.1 F.2.1 F.2.2.2.2.1 (zsing (h1 p j _ hz)) 0 1 rfl rfl hi hd (kk ad H locs ls h0 h1 h2 h3 h4)
theorem z_lald (F : zFix X cc own ret nL d mc ms nw np) {p N : Nat} {f : Nat → Int64} {i : Int32} (hw : w[p]? = some (.inr (.inl (1, N, .inr (.inl f))))) (hi : vp_in i N) (hd : decode cc pc = .ok (.laload, 1))
    (kk : Z X L (zl (f i.toNatClampNeg) :: S) w k n (pc + 1)) : Z X L (zi i :: zr p 0 :: S) w k n pc := z_laldC F (by simp [zat, hw, zcell]) hi hd kk
theorem z_iastC (F : zFix X cc own ret nL d mc ms nw np) {p j N : Nat} {f : Nat → Int32} {i : Int32} {x : Int32} {w' : List zE} (hz : zat w p j = some (.inr (0, N, .inl f))) (hi : vp_in i N) (hu : zUpd w p j (.inr (0, N, .inl (upd f i.toNatClampNeg x))) w') (hd : decode cc pc = .ok (.iastore, 1))
    (kk : Z X L S w' k n (pc + 1)) : Z X L (zi x :: zi i :: zr p j :: S) w k n pc := fun ad H locs ls h0 h1 h2 h3 h4 =>
  vy_iast F.1 F.2.1 F.2.2.2.2.1 (h2.2 p j _ hz) h3 0 (h1 p j _ hz) rfl hi hd (fun H1 locs1 e1 e2 e3 => kk ad H1 locs1 ls h0 (hu.rel h2 h1 e1 e2) (hu.inj h2) e3 h4)
theorem z_iast (F : zFix X cc own ret nL d mc ms nw np) {p N : Nat} {f : Nat → Int32} {i : Int32} {x : Int32} (hw : w[p]? = some (.inr (.inl (0, N, .inl f)))) (hi : vp_in i N) (hd : decode cc pc = .ok (.iastore, 1))
    (kk : Z X L S (w.set p (.inr (.inl (0, N, .inl (upd f i.toNatClampNeg x))))) k n (pc + 1)) : Z X L (zi x :: zi i :: zr p 0 :: S) w k n pc := z_iastC F (by simp [zat, hw, zcell]) hi (zUpd_A hw) hd kk
theorem z_zastC (F : zFix X cc own ret nL d mc ms nw np) {p j N : Nat} {f : Nat → Int32} {i : Int32} {x : Int32} {w' : List zE} (hz : zat w p j = some (.inr (2, N, .inl f))) (hi : vp_in i N) (hu : zUpd w p j (.inr (2, N, .inl (upd f i.toNatClampNeg (vp_nar .boolean x)))) w') (hd : decode cc pc = .ok (.bastore, 1))
    (kk : Z X L S w' k n (pc + 1)) : Z X L (zi x :: zi i :: zr p j :: S) w k n pc := fun ad H locs ls h0 h1 h2 h3 h4 =>
  vy_zast F.1 F.2.1 F.2.2.2.2.1 (h2.2 p j _ hz) h3 2 (h1 p j _ hz) rfl hi hd (fun H1 locs1 e1 e2 e3 => kk ad H1 locs1 ls h0 (hu.rel h2 h1 e1 e2) (hu.inj h2) e3 h4)
theorem z_zast (F : zFix X cc own ret nL d mc ms nw np) {p N : Nat} {f : Nat → Int32} {i : Int32} {x : Int32} (hw : w[p]? = some (.inr (.inl (2, N, .inl f)))) (hi : vp_in i N) (hd : decode cc pc = .ok (.bastore, 1))
    (kk : Z X L S (w.set p (.inr (.inl (2, N, .inl (upd f i.toNatClampNeg (vp_nar .boolean x)))))) k n (pc + 1)) : Z X L (zi x :: zi i :: zr p 0 :: S) w k n pc := z_zastC F (by simp [zat, hw, zcell]) hi (zUpd_A hw) hd kk
theorem z_bastC (F : zFix X cc own ret nL d mc ms nw np) {p j N : Nat} {f : Nat → Int32} {i : Int32} {x : Int32} {w' : List zE} (hz : zat w p j = some (.inr (3, N, .inl f))) (hi : vp_in i N) (hu : zUpd w p j (.inr (3, N, .inl (upd f i.toNatClampNeg (vp_nar .byte x)))) w') (hd : decode cc pc = .ok (.bastore, 1))
    (kk : Z X L S w' k n (pc + 1)) : Z X L (zi x :: zi i :: zr p j :: S) w k n pc := fun ad H locs ls h0 h1 h2 h3 h4 =>
  vy_bast F.1 F.2.1 F.2.2.2.2.1 (h2.2 p j _ hz) h3 3 (h1 p j _ hz) rfl hi hd (fun H1 locs1 e1 e2 e3 => kk ad H1 locs1 ls h0 (hu.rel h2 h1 e1 e2) (hu.inj h2) e3 h4)
theorem z_bast (F : zFix X cc own ret nL d mc ms nw np) {p N : Nat} {f : Nat → Int32} {i : Int32} {x : Int32} (hw : w[p]? = some (.inr (.inl (3, N, .inl f)))) (hi : vp_in i N) (hd : decode cc pc = .ok (.bastore, 1))
    (kk : Z X L S (w.set p (.inr (.inl (3, N, .inl (upd f i.toNatClampNeg (vp_nar .byte x)))))) k n (pc + 1)) : Z X L (zi x :: zi i :: zr p 0 :: S) w k n pc := z_bastC F (by simp [zat, hw, zcell]) hi (zUpd_A hw) hd kk
theorem z_lastC (F : zFix X cc own ret nL d mc ms nw np) {p j N : Nat} {f : Nat → Int64} {i : Int32} {x : Int64} {w' : List zE} (hz : zat w p j = some (.inr (1, N, .inr (.inl f)))) (hi : vp_in i N) (hu : zUpd w p j (.inr (1, N, .inr (.inl (vp_updL f i.toNatClampNeg x)))) w') (hd : decode cc pc = .ok (.lastore, 1))
    (kk : Z X L S w' k n (pc + 1)) : Z X L (zl x :: zi i :: zr p j :: S) w k n pc := fun ad H locs ls h0 h1 h2 h3 h4 =>
  vy_last F.1 F.2.1 F.2.2.2.2.1 (h2.2 p j _ hz) h3 1 (h1 p j _ hz) rfl hi hd (fun H1 locs1 e1 e2 e3 => kk ad H1 locs1 ls h0 (hu.rel h2 h1 e1 e2) (hu.inj h2) e3 h4)
theorem z_last (F : zFix X cc own ret nL d mc ms nw np) {p N : Nat} {f : Nat → Int64} {i : Int32} {x : Int64} (hw : w[p]? = some (.inr (.inl (1, N, .inr (.inl f))))) (hi : vp_in i N) (hd : decode cc pc = .ok (.lastore, 1))
    (kk : Z X L S (w.set p (.inr (.inl (1, N, .inr (.inl (vp_updL f i.toNatClampNeg x)))))) k n (pc + 1)) : Z X L (zl x :: zi i :: zr p 0 :: S) w k n pc := z_lastC F (by simp [zat, hw, zcell]) hi (zUpd_A hw) hd kk
theorem z_ialdM (F : zFix X cc own ret nL d mc ms nw np) {p t N m i0 : Nat} {M : Nat → Nat → Int32} {i : Int32} (hw : w[p]? = some (zMi t 0 N m M)) (h0 : i0 < N) (hi : vp_in i m) (hd : decode cc pc = .ok (.iaload, 1))
    (kk : Z X L (zi (M i0 i.toNatClampNeg) :: S) w k n (pc + 1)) : Z X L (zi i :: zr p (i0 + 1) :: S) w k n pc := z_ialdC F (zat_Mi hw h0) hi hd kk
theorem z_ialdG (F : zFix X cc own ret nL d mc ms nw np) {p N f : Nat} {Fv : Nat → Int32} {Gv : Nat → Int64} {Av : Nat → Nat → Int32} {Bv : Nat → Nat → Int64} {i : Int32} (hw : w[p]? = some (zG Fv Gv Av Bv)) (h0 : zmT f = (2, 0, N)) (hi : vp_in i N) (hd : decode cc pc = .ok (.iaload, 1))
    (kk : Z X L (zi (Av f i.toNatClampNeg) :: S) w k n (pc + 1)) : Z X L (zi i :: zr p (f + 1) :: S) w k n pc := z_ialdC F (zat_GA hw h0) hi hd kk
theorem z_zaldM (F : zFix X cc own ret nL d mc ms nw np) {p t N m i0 : Nat} {M : Nat → Nat → Int32} {i : Int32} (hw : w[p]? = some (zMi t 2 N m M)) (h0 : i0 < N) (hi : vp_in i m) (hd : decode cc pc = .ok (.baload, 1))
    (kk : Z X L (zi (M i0 i.toNatClampNeg) :: S) w k n (pc + 1)) : Z X L (zi i :: zr p (i0 + 1) :: S) w k n pc := z_zaldC F (zat_Mi hw h0) hi hd kk
theorem z_zaldG (F : zFix X cc own ret nL d mc ms nw np) {p N f : Nat} {Fv : Nat → Int32} {Gv : Nat → Int64} {Av : Nat → Nat → Int32} {Bv : Nat → Nat → Int64} {i : Int32} (hw : w[p]? = some (zG Fv Gv Av Bv)) (h0 : zmT f = (2, 2, N)) (hi : vp_in i N) (hd : decode cc pc = .ok (.baload, 1))
    (kk : Z X L (zi (Av f i.toNatClampNeg) :: S) w k n (pc + 1)) : Z X L (zi i :: zr p (f + 1) :: S) w k n pc := z_zaldC F (zat_GA hw h0) hi hd kk
theorem z_laldM (F : zFix X cc own ret nL d mc ms nw np) {p t N m i0 : Nat} {M : Nat → Nat → Int64} {i : Int32} (hw : w[p]? = some (zMl t 1 N m M)) (h0 : i0 < N) (hi : vp_in i m) (hd : decode cc pc = .ok (.laload, 1))
    (kk : Z X L (zl (M i0 i.toNatClampNeg) :: S) w k n (pc + 1)) : Z X L (zi i :: zr p (i0 + 1) :: S) w k n pc := z_laldC F (zat_Ml hw h0) hi hd kk
theorem z_laldG (F : zFix X cc own ret nL d mc ms nw np) {p N f : Nat} {Fv : Nat → Int32} {Gv : Nat → Int64} {Av : Nat → Nat → Int32} {Bv : Nat → Nat → Int64} {i : Int32} (hw : w[p]? = some (zG Fv Gv Av Bv)) (h0 : zmT f = (3, 1, N)) (hi : vp_in i N) (hd : decode cc pc = .ok (.laload, 1))
    (kk : Z X L (zl (Bv f i.toNatClampNeg) :: S) w k n (pc + 1)) : Z X L (zi i :: zr p (f + 1) :: S) w k n pc := z_laldC F (zat_GB hw h0) hi hd kk
theorem zup2_row {α : Type} {M : Nat → Nat → α} {i j : Nat} {x : α} : zup2 M i j x i = fun b => if b = j then x else M i b := by funext b; simp [zup2]
theorem zup2_ne {α : Type} {M : Nat → Nat → α} {i j a : Nat} {x : α} (h : a ≠ i) : zup2 M i j x a = M a := by funext b; simp [zup2, h]
theorem zUpd_Mi {w : List zE} {p t te N m i0 j : Nat} {M : Nat → Nat → Int32} {x : Int32} (hw : w[p]? = some (zMi t te N m M)) (h0 : i0 < N) : zUpd w p (i0 + 1) (.inr (te, m, .inl (upd (M i0) j x))) (w.set p (zMi t te N m (zup2 M i0 j x))) := by
  refine zUpd_of (c0 := .inr (te, m, .inl (M i0))) hw (by simp [zcell, h0]) (by simp only [zcell, h0, if_true, zup2_row]; rfl) (fun j' hj => ?_)
  cases j' with
  | zero => rfl
  | succ i => simp only [zcell]; rw [zup2_ne (by omega)]
theorem zUpd_Ml {w : List zE} {p t te N m i0 j : Nat} {M : Nat → Nat → Int64} {x : Int64} (hw : w[p]? = some (zMl t te N m M)) (h0 : i0 < N) : zUpd w p (i0 + 1) (.inr (te, m, .inr (.inl (vp_updL (M i0) j x)))) (w.set p (zMl t te N m (zup2 M i0 j x))) := by
  refine zUpd_of (c0 := .inr (te, m, .inr (.inl (M i0)))) hw (by simp [zcell, h0]) (by simp only [zcell, h0, if_true, zup2_row]; rfl) (fun j' hj => ?_)
  cases j' with
  | zero => rfl
  | succ i => simp only [zcell]; rw [zup2_ne (by omega)]
theorem zUpd_GA {w : List zE} {p f t N j : Nat} {Fv : Nat → Int32} {Gv : Nat → Int64} {Av : Nat → Nat → Int32} {Bv : Nat → Nat → Int64} {x : Int32} (hw : w[p]? = some (zG Fv Gv Av Bv)) (h0 : zmT f = (2, t, N)) : zUpd w p (f + 1) (.inr (t, N, .inl (upd (Av f) j x))) (w.set p (zG Fv Gv (zup2 Av f j x) Bv)) := by
  refine zUpd_of (c0 := .inr (t, N, .inl (Av f))) hw (by simp [zcell, zmA, h0]) (by simp only [zcell, zmA, h0, zup2_row]; rfl) (fun j' hj => zcell_Gset (fun q => ?_) (fun _ _ => rfl))
  have hne : j' - 1 ≠ f := by omega
  simp only [zmA, zup2_ne hne]
theorem zUpd_GB {w : List zE} {p f t N j : Nat} {Fv : Nat → Int32} {Gv : Nat → Int64} {Av : Nat → Nat → Int32} {Bv : Nat → Nat → Int64} {x : Int64} (hw : w[p]? = some (zG Fv Gv Av Bv)) (h0 : zmT f = (3, t, N)) : zUpd w p (f + 1) (.inr (t, N, .inr (.inl (vp_updL (Bv f) j x)))) (w.set p (zG Fv Gv Av (zup2 Bv f j x))) := by
  refine zUpd_of (c0 := .inr (t, N, .inr (.inl (Bv f)))) hw (by simp [zcell, zmA, h0]) (by simp only [zcell, zmA, h0, zup2_row]; rfl) (fun j' hj => zcell_Gset (fun q => ?_) (fun _ _ => rfl))
  have hne : j' - 1 ≠ f := by omega
  simp only [zmA, zup2_ne hne]
theorem z_iastM (F : zFix X cc own ret nL d mc ms nw np) {p t N m i0 : Nat} {M : Nat → Nat → Int32} {i x : Int32} (hw : w[p]? = some (zMi t 0 N m M)) (h0 : i0 < N) (hi : vp_in i m) (hd : decode cc pc = .ok (.iastore, 1))
    (kk : Z X L S (w.set p (zMi t 0 N m (zup2 M i0 i.toNatClampNeg x))) k n (pc + 1)) : Z X L (zi x :: zi i :: zr p (i0 + 1) :: S) w k n pc := z_iastC F (zat_Mi hw h0) hi (zUpd_Mi hw h0) hd kk
theorem z_iastG (F : zFix X cc own ret nL d mc ms nw np) {p N f : Nat} {Fv : Nat → Int32} {Gv : Nat → Int64} {Av : Nat → Nat → Int32} {Bv : Nat → Nat → Int64} {i x : Int32} (hw : w[p]? = some (zG Fv Gv Av Bv)) (h0 : zmT f = (2, 0, N)) (hi : vp_in i N) (hd : decode cc pc = .ok (.iastore, 1))
    (kk : Z X L S (w.set p (zG Fv Gv (zup2 Av f i.toNatClampNeg x) Bv)) k n (pc + 1)) : Z X L (zi x :: zi i :: zr p (f + 1) :: S) w k n pc := z_iastC F (zat_GA hw h0) hi (zUpd_GA hw h0) hd kk
theorem z_zastM (F : zFix X cc own ret nL d mc ms nw np) {p t N m i0 : Nat} {M : Nat → Nat → Int32} {i x : Int32} (hw : w[p]? = some (zMi t 2 N m M)) (h0 : i0 < N) (hi : vp_in i m) (hd : decode cc pc = .ok (.bastore, 1))
    (kk : Z X L S (w.set p (zMi t 2 N m (zup2 M i0 i.toNatClampNeg (vp_nar .boolean x)))) k n (pc + 1)) : Z X L (zi x :: zi i :: zr p (i0 + 1) :: S) w k n pc := z_zastC F (zat_Mi hw h0) hi (zUpd_Mi hw h0) hd kk
theorem z_zastG (F : zFix X cc own ret nL d mc ms nw np) {p N f : Nat} {Fv : Nat → Int32} {Gv : Nat → Int64} {Av : Nat → Nat → Int32} {Bv : Nat → Nat → Int64} {i x : Int32} (hw : w[p]? = some (zG Fv Gv Av Bv)) (h0 : zmT f = (2, 2, N)) (hi : vp_in i N) (hd : decode cc pc = .ok (.bastore, 1))
    (kk : Z X L S (w.set p (zG Fv Gv (zup2 Av f i.toNatClampNeg (vp_nar .boolean x)) Bv)) k n (pc + 1)) : Z X L (zi x :: zi i :: zr p (f + 1) :: S) w k n pc := z_zastC F (zat_GA hw h0) hi (zUpd_GA hw h0) hd kk
theorem z_lastM (F : zFix X cc own ret nL d mc ms nw np) {p t N m i0 : Nat} {M : Nat → Nat → Int64} {i : Int32} {x : Int64} (hw : w[p]? = some (zMl t 1 N m M)) (h0 : i0 < N) (hi : vp_in i m) (hd : decode cc pc = .ok (.lastore, 1))
    (kk : Z X L S (w.set p (zMl t 1 N m (zup2 M i0 i.toNatClampNeg x))) k n (pc + 1)) : Z X L (zl x :: zi i :: zr p (i0 + 1) :: S) w k n pc := z_lastC F (zat_Ml hw h0) hi (zUpd_Ml hw h0) hd kk
theorem z_lastG (F : zFix X cc own ret nL d mc ms nw np) {p N f : Nat} {Fv : Nat → Int32} {Gv : Nat → Int64} {Av : Nat → Nat → Int32} {Bv : Nat → Nat → Int64} {i : Int32} {x : Int64} (hw : w[p]? = some (zG Fv Gv Av Bv)) (h0 : zmT f = (3, 1, N)) (hi : vp_in i N) (hd : decode cc pc = .ok (.lastore, 1))
    (kk : Z X L S (w.set p (zG Fv Gv Av (zup2 Bv f i.toNatClampNeg x))) k n (pc + 1)) : Z X L (zl x :: zi i :: zr p (f + 1) :: S) w k n pc := z_lastC F (zat_GB hw h0) hi (zUpd_GB hw h0) hd kk
/-- arrays of arrays: a row -/
theorem z_aaldC (F : zFix X cc own ret nL d mc ms nw np) {p j N t : Nat} {f : Nat → zV} {ty : FieldType} (ht : ∀ cA : Nat → ClassId, (zts cA)[t]? = some (cA t, ty)) (href : ty.isReference = true) {i : Int32} (hz : zat w p j = some (.inr (t, N, .inr (.inr f)))) (hi : vp_in i N) (hr : (∃ q, f i.toNatClampNeg = .inr q) ∨ (∃ a, f i.toNatClampNeg = .inl (.ref a)) ∨ f i.toNatClampNeg = zn) (hd : decode cc pc = .ok (.aaload, 1))
    (kk : Z X L (f i.toNatClampNeg :: S) w k n (pc + 1)) : Z X L (zi i :: zr p j :: S) w k n pc := fun ad H locs ls h0 h1 h2 h3 h4 => by
  have hlt : i.toNatClampNeg < N := Nat.not_le.mp fun q => hi (Or.inr q)
  have e : va_rf (zop (zcv ad (f i.toNatClampNeg))) = zcv ad (f i.toNatClampNeg) := by
    rcases hr with ⟨q, h⟩ | ⟨a, h⟩ | h <;> rw [h] <;> rfl
  have hk := kk ad H locs ls h0 h1 h2 h3 h4
  refine W.aald (v := zcv ad (f i.toNatClampNeg)) (ty := ty) F.1 F.2.1 (h1 p j _ hz) ((F.2.2.2.2.1.2 t _ (ht _)).1 N (fun j => va_rf (zop (zcv ad (f j))))) href (fun q => by cases q) (by show ¬ (i < 0 ∨ (arrV _ _ _).slots.size ≤ _); rw [arrV_size]; exact hi) (by show (arrV _ _ _).slots[_]? = _; rw [arrV_read _ _ hlt, e]) rfl rfl hd hk
theorem z_aaldM (F : zFix X cc own ret nL d mc ms nw np) {p N t te m : Nat} {c : (Nat → Nat → Int32) ⊕ (Nat → Nat → Int64)} {i : Int32} (hw : w[p]? = some (.inr (.inr (.inl (t, te, N, m, c))))) (ht : t = 4 ∨ t = 5 ∨ t = 6) (hi : vp_in i N) (hd : decode cc pc = .ok (.aaload, 1))
    (kk : Z X L (zr p (i.toNatClampNeg + 1) :: S) w k n (pc + 1)) : Z X L (zi i :: zr p 0 :: S) w k n pc := by
  have hz : zat w p 0 = some (.inr (t, N, .inr (.inr (fun i => zr p (i + 1))))) := by simp [zat, hw, zcell]
  rcases ht with rfl | rfl | rfl
  · exact z_aaldC F (ty := .array .int) (fun _ => rfl) rfl hz hi (Or.inl ⟨_, rfl⟩) hd kk
  · exact z_aaldC F (ty := .array .long) (fun _ => rfl) rfl hz hi (Or.inl ⟨_, rfl⟩) hd kk
  · exact z_aaldC F (ty := .array .boolean) (fun _ => rfl) rfl hz hi (Or.inl ⟨_, rfl⟩) hd kk
theorem z_alenC (F : zFix X cc own ret nL d mc ms nw np) {p j N t : Nat} {c : zC} {ty : FieldType} (ht : ∀ cA : Nat → ClassId, (zts cA)[t]? = some (cA t, ty)) (v : Int32) (hv : Int32.ofNat N = v) (hz : zat w p j = some (.inr (t, N, c))) (hd : decode cc pc = .ok (.arraylength, 1))
    (kk : Z X L (zi v :: S) w k n (pc + 1)) : Z X L (zr p j :: S) w k n pc := fun ad H locs ls h0 h1 h2 h3 h4 =>
  va_alen F.1 F.2.1 F.2.2.2.2.1 (zsing (h1 p j _ hz)) 0 t rfl (ht _) hv hd (kk ad H locs ls h0 h1 h2 h3 h4)
theorem z_alen (F : zFix X cc own ret nL d mc ms nw np) {p N t : Nat} {c : zC} {ty : FieldType} (ht : ∀ cA : Nat → ClassId, (zts cA)[t]? = some (cA t, ty)) (v : Int32) (hv : Int32.ofNat N = v) (hw : w[p]? = some (.inr (.inl (t, N, c)))) (hd : decode cc pc = .ok (.arraylength, 1))
    (kk : Z X L (zi v :: S) w k n (pc + 1)) : Z X L (zr p 0 :: S) w k n pc := z_alenC (c := c) F ht v hv (by simp [zat, hw, zcell]) hd kk
end ZH2
