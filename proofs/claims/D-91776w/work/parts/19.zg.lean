section ZG1
theorem zstk {g : Nat → Nat} {ad : Nat → Nat → Nat} {as : List zV} : ((as.map (zrn g)).reverse).map (zcv ad) = (as.map (zcv (fun p j => ad (g p) j))).reverse := by
  rw [List.map_reverse, List.map_map]
  congr 1
  exact List.map_congr_left fun v _ => zcv_rn (g := g) (ad := fun p j => ad (g p) j) (ad' := ad) (fun _ _ => rfl) v
theorem zsum {ad : Nat → Nat → Nat} {S : List zV} : ((S.map (zcv ad)).map fun v => v.category) = S.map zcat := by
  rw [List.map_map]
  exact List.map_congr_left fun v _ => zcat_cv ad v
section ZG2
variable {X : zX} {cc : ByteArray} {own : String} {ret : Option FieldType} {nL d mc ms nw : Nat} {np : Bool} {L : List (Option zV)} {S : List zV} {w : List zE} {k n pc : Nat}
variable {post : Option zV → List zE → Prop} {xpost : String → List zE → Prop} {w0 : List zE} {y : MethodName} {cc' : ByteArray} {nL' d' mc' ms' idx : Nat} {ret' : Option FieldType} {as st0 : List zV}
theorem z_pre (F : zFix X cc own ret nL d mc ms nw np) {σ : List Nat} {N : Nat} (hz : zcall σ N w w0) {ad : Nat → Nat → Nat} {H : Heap} {locs : List Loc} (h1 : zRel X.2.2.1 X.2.2.2.1 ad w H) (h2 : zInj ad w X.2.2.2.2.1) (h3 : va_S X.2.2.2.2.1 X.1.2.2.2.2.1.heap H locs) {av : List zV} (U : State) (hU : U.heap = H) (hW : X.1.2.2.2.2.1.WarmedH U.vm) :
    va_Pc (av.map (zcv (zadc σ N ad))) (zPc X.2.2.1 X.2.2.2.1 (zadc σ N ad) w0 H.size X.1.2.1) (av.map (zcv (zadc σ N ad))).toArray U :=
  ⟨rfl, by rw [hU], by rw [hU]; exact hz.rel h1, hz.inj h2 (fun _ _ => trivial), va_K.moved hW.alike F.2.2.2.2.1, zSt_to F.2.2.2.2.2.2.2.2.2.2.1 hW h3 hU (hz.free h2 (fun q hq => F.2.2.2.2.2.1 q (Nat.le_trans h3.1 hq)))⟩

theorem z_callV (F : zFix X cc own ret nL d mc ms nw np) {p0 ci Nf : Nat} {fs : List zV} {T : u_T} {ty0 : Nat → FieldType} (C : zCtr y cc' nL' ret' d' mc' ms' (zr p0 0 :: as) w0 post xpost) (na : Nat) (hna : as.length = na) (hG : GoodIn lw_all (wsV own idx y.cls y (ws_ y cc' nL' ret'))) (hy : y.cls = y.cls ∧ y.cls ≠ "java/lang/invoke/MethodHandle" ∧ y.cls ≠ "java/lang/invoke/VarHandle" ∧ (parseMethodDescriptor y.desc).map (fun d => d.parameters.length) = some na)
    (hrm : d' + 1 ≤ d ∧ nL' ≤ 41) (hks : k + mc' ≤ mc ∧ n + ms' ≤ ms) (σ : List Nat) (N : Nat) (hz : zcall σ N w w0) (hpl : zisP w0 = true → np = true) (hnw : nw ≤ N) (hkp : zkept σ N w0 w L S) (hnL : L.length = nL) (hC : zCl ci y.cls T Nf ty0) (hrc : zat w0 p0 0 = some (.inl (ci, fs))) (hst : st0 = (as.map (zrn (zsg σ N))).reverse ++ zr (zsg σ N p0) 0 :: S) (hd : decode cc pc = .ok (.invokevirtual idx, 3))
    (kk : ∀ r w1, post r w1 → Z X L ((r.map (zrn (zsg σ N))).toList ++ S) (zbk σ N w0 w1 0 w) (k + mc') (n + ms') (pc + 3))
    (kx : ∀ E w1, xpost E w1 → ZX X L (zbk σ N w0 w1 0 w) (k + mc') (n + ms') pc E N) : Z X L st0 w k n pc := fun ad H locs ls h0 h1 h2 h3 h4 => by
  refine z_go F hz hpl hnw hkp h0 h1 h2 h3 h4 (a := (Value.ref (zadc σ N ad p0 0) :: as.map (zcv (zadc σ N ad))).toArray) ?_ kk kx
  have hrel := hz.rel h1
  exact vx_runV (As := as.map (zcv (zadc σ N ad))) ⟨F.1, F.2.1, F.2.2.2.2.2.2.2.2.1, F.2.2.1, F.2.2.2.1⟩ (C X.1.2.1 X.2.2.1 X.2.2.2.1 (zadc σ N ad) H.size) (cwV na F.2.2.2.1 hG rfl rfl rfl hy ⟨by rw [F.2.2.2.2.2.2.2.2.2.1]; exact hrm.1, by rw [F.2.2.2.2.2.2.2.2.2.1]; show 8 + (nL' + 11) + 60 * d' ≤ 60 * d; omega⟩)
    ⟨zPc_blind, va_recv F.2.2.2.2.1 (zsing (hrel p0 0 _ hrc)) (q0 := 0) hC.1 rfl, fun U hU hW => z_pre F hz h1 h2 h3 (av := zr p0 0 :: as) U hU hW⟩ rfl (by simpa using hna) (h4.1.trans hnL) (by subst hst; show List.map _ _ = _; rw [List.map_append, zstk]; rfl) (lv_room (by rw [zsum]; exact hkp.2.2.2.2)) hd (by rw [F.2.2.2.2.2.2.2.2.2.1]; exact hks)
theorem z_callS (F : zFix X cc own ret nL d mc ms nw np) (C : zCtr y cc' nL' ret' d' mc' ms' as w0 post xpost) (na : Nat) (hna : as.length = na) (hG : GoodIn lw_all (va_wsS own idx y (ws_ y cc' nL' ret'))) (hy : y.cls ≠ "java/lang/invoke/MethodHandle" ∧ y.cls ≠ "java/lang/invoke/VarHandle" ∧ (parseMethodDescriptor y.desc).map (fun d => d.parameters.length) = some na)
    (hrm : d' + 1 ≤ d ∧ nL' ≤ 41) (hks : k + mc' ≤ mc ∧ n + ms' ≤ ms) (σ : List Nat) (N : Nat) (hz : zcall σ N w w0) (hpl : zisP w0 = true → np = true) (hnw : nw ≤ N) (hkp : zkept σ N w0 w L S) (hnL : L.length = nL) (hst : st0 = (as.map (zrn (zsg σ N))).reverse ++ S) (hd : decode cc pc = .ok (.invokestatic idx, 3))
    (kk : ∀ r w1, post r w1 → Z X L ((r.map (zrn (zsg σ N))).toList ++ S) (zbk σ N w0 w1 0 w) (k + mc') (n + ms') (pc + 3))
    (kx : ∀ E w1, xpost E w1 → ZX X L (zbk σ N w0 w1 0 w) (k + mc') (n + ms') pc E N) : Z X L st0 w k n pc := fun ad H locs ls h0 h1 h2 h3 h4 => by
  refine z_go F hz hpl hnw hkp h0 h1 h2 h3 h4 (a := (as.map (zcv (zadc σ N ad))).toArray) ?_ kk kx
  exact vx_runS (As := as.map (zcv (zadc σ N ad))) ⟨F.1, F.2.1, F.2.2.2.2.2.2.2.2.1, F.2.2.1, F.2.2.2.1⟩ (C X.1.2.1 X.2.2.1 X.2.2.2.1 (zadc σ N ad) H.size) (va_cwS na F.2.2.2.1 hG rfl rfl rfl hy ⟨by rw [F.2.2.2.2.2.2.2.2.2.1]; exact hrm.1, by rw [F.2.2.2.2.2.2.2.2.2.1]; show 8 + (nL' + 11) + 60 * d' ≤ 60 * d; omega⟩)
    ⟨zPc_blind, fun U hU hW => z_pre F hz h1 h2 h3 U hU hW⟩ rfl (by simpa using hna) (h4.1.trans hnL) (by subst hst; show List.map _ _ = _; rw [List.map_append, zstk]; rfl) (lv_room (by rw [zsum]; exact hkp.2.2.2.2)) hd (by rw [F.2.2.2.2.2.2.2.2.2.1]; exact hks)
theorem z_callI (F : zFix X cc own ret nL d mc ms nw np) {p0 : Nat} (C : zCtr y cc' nL' none d' mc' ms' (zr p0 0 :: as) w0 post xpost) (na : Nat) (hna : as.length = na) (hG : GoodIn lw_all (ws_ y cc' nL' none)) (hini : Cond.initialized y.cls ∈ lw_all) (hlk : Cond.methodLink own idx y ∈ lw_all) (hin : Cond.instanceMethod y ∈ lw_all) (hy1 : y.name = "<init>") (hy : y.cls ≠ "java/lang/invoke/MethodHandle" ∧ y.cls ≠ "java/lang/invoke/VarHandle" ∧ (parseMethodDescriptor y.desc).map (fun d => d.parameters.length) = some na)
    (hrm : d' + 1 ≤ d ∧ nL' ≤ 41) (hks : k + mc' ≤ mc ∧ n + ms' ≤ ms) (σ : List Nat) (N : Nat) (hz : zcall σ N w w0) (hpl : zisP w0 = true → np = true) (hnw : nw ≤ N) (hkp : zkept σ N w0 w L S) (hnL : L.length = nL) (hst : st0 = (as.map (zrn (zsg σ N))).reverse ++ zr (zsg σ N p0) 0 :: S) (hd : decode cc pc = .ok (.invokespecial idx, 3))
    (kk : ∀ r w1, post r w1 → Z X L ((r.map (zrn (zsg σ N))).toList ++ S) (zbk σ N w0 w1 0 w) (k + mc') (n + ms') (pc + 3))
    (kx : ∀ E w1, xpost E w1 → ZX X L (zbk σ N w0 w1 0 w) (k + mc') (n + ms') pc E N) : Z X L st0 w k n pc := fun ad H locs ls h0 h1 h2 h3 h4 => by
  refine z_go F hz hpl hnw hkp h0 h1 h2 h3 h4 (a := (Value.ref (zadc σ N ad p0 0) :: as.map (zcv (zadc σ N ad))).toArray) ?_ kk kx
  exact vx_runI (As := as.map (zcv (zadc σ N ad))) ⟨F.1, F.2.1, F.2.2.2.2.2.2.2.2.1, F.2.2.1, F.2.2.2.1⟩ (C X.1.2.1 X.2.2.1 X.2.2.2.1 (zadc σ N ad) H.size) (cwI na F.2.2.2.1 hG rfl rfl rfl (F.2.2.2.1 _ hini) (F.2.2.2.1 _ hlk) (F.2.2.2.1 _ hin) hy1 hy ⟨by rw [F.2.2.2.2.2.2.2.2.2.1]; exact hrm.1, by rw [F.2.2.2.2.2.2.2.2.2.1]; show 8 + (nL' + 11) + 60 * d' ≤ 60 * d; omega⟩)
    ⟨zPc_blind, fun U hU hW => z_pre F hz h1 h2 h3 (av := zr p0 0 :: as) U hU hW⟩ rfl (by simpa using hna) (h4.1.trans hnL) (by subst hst; show List.map _ _ = _; rw [List.map_append, zstk]; rfl) (lv_room (by rw [zsum]; exact hkp.2.2.2.2)) hd (by rw [F.2.2.2.2.2.2.2.2.2.1]; exact hks)
theorem z_callIN (F : zFix X cc own ret nL d mc ms nw np) {p0 : Nat} {host : String} (C : zCtr y cc' nL' none d' mc' ms' (zr p0 0 :: as) w0 post xpost) (na : Nat) (hna : as.length = na) (hG : GoodIn lw_all (ws_ y cc' nL' none)) (hini : Cond.initialized y.cls ∈ lw_all) (hlk : Cond.methodLinkNest own idx y host ∈ lw_tbl) (hin : Cond.instanceMethod y ∈ lw_all) (hy1 : y.name = "<init>") (hy : y.cls ≠ "java/lang/invoke/MethodHandle" ∧ y.cls ≠ "java/lang/invoke/VarHandle" ∧ (parseMethodDescriptor y.desc).map (fun d => d.parameters.length) = some na)
    (hrm : d' + 1 ≤ d ∧ nL' ≤ 41) (hks : k + mc' ≤ mc ∧ n + ms' ≤ ms) (σ : List Nat) (N : Nat) (hz : zcall σ N w w0) (hpl : zisP w0 = true → np = true) (hnw : nw ≤ N) (hkp : zkept σ N w0 w L S) (hnL : L.length = nL) (hst : st0 = (as.map (zrn (zsg σ N))).reverse ++ zr (zsg σ N p0) 0 :: S) (hd : decode cc pc = .ok (.invokespecial idx, 3))
    (kk : ∀ r w1, post r w1 → Z X L ((r.map (zrn (zsg σ N))).toList ++ S) (zbk σ N w0 w1 0 w) (k + mc') (n + ms') (pc + 3))
    (kx : ∀ E w1, xpost E w1 → ZX X L (zbk σ N w0 w1 0 w) (k + mc') (n + ms') pc E N) : Z X L st0 w k n pc := fun ad H locs ls h0 h1 h2 h3 h4 => by
  refine z_go F hz hpl hnw hkp h0 h1 h2 h3 h4 (a := (Value.ref (zadc σ N ad p0 0) :: as.map (zcv (zadc σ N ad))).toArray) ?_ kk kx
  exact vx_runIN (As := as.map (zcv (zadc σ N ad))) ⟨F.1, F.2.1, F.2.2.2.2.2.2.2.2.1, F.2.2.1, F.2.2.2.1⟩ (C X.1.2.1 X.2.2.1 X.2.2.2.1 (zadc σ N ad) H.size) ⟨va_cnB na F.2.2.2.1 hG rfl rfl rfl (F.2.2.2.2.2.2.2.2.2.2.1.2.1 _ (zNest_of hlk rfl)) (F.2.2.2.1 _ hini) hy ⟨by rw [F.2.2.2.2.2.2.2.2.2.1]; exact hrm.1, by rw [F.2.2.2.2.2.2.2.2.2.1]; show 8 + (nL' + 11) + 60 * d' ≤ 60 * d; omega⟩, hy1, F.2.2.2.1 _ hin⟩
    ⟨zPc_blind, fun U hU hW => z_pre F hz h1 h2 h3 (av := zr p0 0 :: as) U hU hW⟩ rfl (by simpa using hna) (h4.1.trans hnL) (by subst hst; show List.map _ _ = _; rw [List.map_append, zstk]; rfl) (lv_room (by rw [zsum]; exact hkp.2.2.2.2)) hd (by rw [F.2.2.2.2.2.2.2.2.2.1]; exact hks)
theorem z_objInit (F : zFix X cc own ret nL d mc ms nw np) {q : Nat × Nat} (hlk : Cond.methodLink own idx objectInit ∈ lw_all) (hin : Cond.instanceMethod objectInit ∈ lw_all) (hcd : Cond.code objectInit ⟨#[0xb1]⟩ 1 none ∈ lw_all) (hd : decode cc pc = .ok (.invokespecial idx, 3)) (hd1 : 1 ≤ d) (hnL : L.length = nL) (hS : (S.map zcat).sum ≤ 48) (kk : Z X L S w k n (pc + 3)) : Z X L (.inr q :: S) w k n pc := fun ad H locs ls h0 h1 h2 h3 h4 =>
  W.objInit F.1 F.2.1 F.2.2.1 (F.2.2.2.1 _ hlk) (F.2.2.2.1 _ hin) (F.2.2.2.1 _ hcd) rfl (by rw [F.2.2.2.2.2.2.2.2.1]; exact h4.1.trans hnL) rfl hd (by rw [F.2.2.2.2.2.2.2.2.2.1]; exact hd1) (by rw [F.2.2.2.2.2.2.2.2.2.1, zsum]; show 0 + _ + 12 ≤ 60 * d; omega) (kk ad H locs ls h0 h1 h2 h3 h4)
theorem z_new (F : zFix X cc own ret nL d mc ms nw np) {ci Nf : Nat} {C : String} {T : u_T} {ty0 : Nat → FieldType} (N : Nat) (fs : List zV) (hC : zCl ci C T Nf ty0) (hcl : Cond.classLink own idx C ∈ lw_all) (hinst : Cond.instantiable C Nf ∈ lw_all) (hini : Cond.initialized C ∈ lw_all) (hfs : ∀ ad j, j < Nf → defaultValue (ty0 j) = vp_V (fs.map (zcv ad)) j) (hN : w.length = N) (hnw : nw ≤ N) (hN0 : 0 < N) (hwf : zwf N w) (hL : L.all (zoN N) = true) (hS : S.all (zokN N) = true) (hks : k + 1 ≤ mc ∧ n + Nf ≤ ms) (hd : decode cc pc = .ok (.new idx, 3))
    (kk : Z X L (zr N 0 :: S) (w ++ [zO ci fs]) (k + 1) (n + Nf) (pc + 3)) : Z X L S w k n pc := fun ad H locs ls h0 h1 h2 h3 h4 => by
  subst hN
  refine vy_new (fs := fs.map (zcv (zad1 ad w.length H.size))) F.1 F.2.1 F.2.2.2.1 hC.2.1 ty0 hC.2.2.1 F.2.2.1 (F.2.2.2.1 _ hcl) (F.2.2.2.1 _ hinst) (F.2.2.2.1 _ hini) F.2.2.2.2.1 h3 hC.1 (hfs _) (by rw [F.2.2.2.2.2.2.2.2.2.1]; exact hks.1) (by rw [F.2.2.2.2.2.2.2.2.2.1]; exact hks.2) hd (fun H1 e1 e2 e3 e4 => ?_)
  have he : ∀ j c', zcell w.length (zO ci fs) j = some c' → j = 0 ∧ c' = .inl (ci, fs) := fun j c' h => by
    simp only [zcell] at h
    split at h
    · cases h; exact ⟨by assumption, rfl⟩
    · cases h
  have hh := kk (zad1 ad w.length H.size) H1 locs ls (h0.new (by rw [F.2.2.2.2.2.2.2.2.2.2.2.1]; exact hnw)) (h1.new hwf he e1 e3) (zInj.new h1 h2 he (F.2.2.2.2.2.1 _ h3.1)) e4 (by unfold zLh; rw [zal_eq zad1_lo hL]; exact h4)
  rw [List.map_cons, zS_eq zad1_lo hS] at hh
  have hz : zcv (zad1 ad w.length H.size) (zr w.length 0) = .ref H.size := by simp [zcv, zad1]
  rw [hz] at hh
  exact hh
def zcK (ad : Nat → Nat → Nat) (c : zC) : (Nat → Int32) ⊕ (Nat → Int64) ⊕ (Nat → UInt32) ⊕ (Nat → UInt64) ⊕ (Nat → Option Nat) := match c with
  | .inl f => .inl f
  | .inr (.inl f) => .inr (.inl f)
  | .inr (.inr f) => .inr (.inr (.inr (.inr (fun i => zop (zcv ad (f i))))))
theorem zcc_K (cA : Nat → ClassId) (ad : Nat → Nat → Nat) (t M : Nat) (c : zC) : zcc cA ad (.inr (t, M, c)) = .inl (cA t, M, zcK ad c) := by
  rcases c with f | f | f <;> rfl
theorem z_newa (F : zFix X cc own ret nL d mc ms nw np) {t M : Nat} {at0 : ArrayType} {ty : FieldType} {c : zC} {i : Int32} (N : Nat) (e : zE) (he0 : e = .inr (.inl (t, M, c))) (hty : newarray.typeOf at0 = ty) (ht : ∀ cA : Nat → ClassId, (zts cA)[t]? = some (cA t, ty)) (hprim : ∀ (s : State) (cA : ClassId), va_RA s cA ty → s.vm.findClass ("[" ++ ty.toString) = some cA) (hdef : ∀ (ad : Nat → Nat → Nat) (cA : ClassId), vp_cell cA (M, zcK ad c) = arrV cA M (fun _ => defaultValue ty)) (harr : Cond.arrayClass (newarray.typeOf at0) ∈ lw_all) (hi : ¬ i < 0) (hM : i.toNatClampNeg = M) (hb : M * componentBytes ty ≤ 536870912) (hN : w.length = N) (hnw : nw ≤ N) (hwf : zwf N w) (hL : L.all (zoN N) = true) (hS : S.all (zokN N) = true) (hks : k + 1 ≤ mc ∧ n + M ≤ ms) (hd : decode cc pc = .ok (.newarray at0, 2))
    (kk : Z X L (zr N 0 :: S) (w ++ [e]) (k + 1) (n + M) (pc + 2)) : Z X L (zi i :: S) w k n pc := fun ad H locs ls h0 h1 h2 h3 h4 => by
  subst hN
  subst he0
  refine vy_newa (a0 := (M, zcK (zad1 ad w.length H.size) c)) F.1 F.2.1 (F.2.2.2.1 _ harr) hty F.2.2.2.2.1 h3 (hdef (zad1 ad w.length H.size)) hi hM hb (by rw [F.2.2.2.2.2.2.2.2.2.1]; exact hks.1) (by rw [F.2.2.2.2.2.2.2.2.2.1]; exact hks.2) hd (fun cA H1 e1 e2 e3 e5 e4 => ?_)
  have hcA : cA = X.2.2.2.1 t := by
    have := hprim _ _ ((F.2.2.2.2.1.2 t _ (ht _)).2)
    exact Option.some.inj (e5.symm.trans this)
  subst hcA
  have he : ∀ j c', zcell w.length (.inr (.inl (t, M, c))) j = some c' → j = 0 ∧ c' = .inr (t, M, c) := fun j c' h => by
    simp only [zcell] at h
    split at h
    · cases h; exact ⟨by assumption, rfl⟩
    · cases h
  rw [← zcc_K] at e1
  have hh := kk (zad1 ad w.length H.size) H1 locs ls (h0.new (by rw [F.2.2.2.2.2.2.2.2.2.2.2.1]; exact hnw)) (h1.new hwf he e1 e3) (zInj.new h1 h2 he (F.2.2.2.2.2.1 _ h3.1)) e4 (by unfold zLh; rw [zal_eq zad1_lo hL]; exact h4)
  rw [List.map_cons, zS_eq zad1_lo hS] at hh
  have hz : zcv (zad1 ad w.length H.size) (zr w.length 0) = .ref H.size := by simp [zcv, zad1]
  rw [hz] at hh
  exact hh
theorem z_newaI (F : zFix X cc own ret nL d mc ms nw np) {i : Int32} (M N : Nat) (harr : Cond.arrayClass .int ∈ lw_all) (hi : ¬ i < 0) (hM : i.toNatClampNeg = M) (hb : M ≤ 67108864) (hN : w.length = N) (hnw : nw ≤ N) (hwf : zwf N w) (hL : L.all (zoN N) = true) (hS : S.all (zokN N) = true) (hks : k + 1 ≤ mc ∧ n + M ≤ ms) (hd : decode cc pc = .ok (.newarray .int, 2))
    (kk : Z X L (zr N 0 :: S) (w ++ [zAi 0 M (fun _ => 0)]) (k + 1) (n + M) (pc + 2)) : Z X L (zi i :: S) w k n pc :=
  z_newa (at0 := .int) F N _ rfl (t := 0) (ty := .int) rfl (fun _ => rfl) (fun _ _ h => h) (fun _ _ => rfl) harr hi hM (by show M * _ ≤ _; simp only [componentBytes]; omega) hN hnw hwf hL hS hks hd kk
theorem z_newaZ (F : zFix X cc own ret nL d mc ms nw np) {i : Int32} (M N : Nat) (harr : Cond.arrayClass .boolean ∈ lw_all) (hi : ¬ i < 0) (hM : i.toNatClampNeg = M) (hb : M ≤ 67108864) (hN : w.length = N) (hnw : nw ≤ N) (hwf : zwf N w) (hL : L.all (zoN N) = true) (hS : S.all (zokN N) = true) (hks : k + 1 ≤ mc ∧ n + M ≤ ms) (hd : decode cc pc = .ok (.newarray .boolean, 2))
    (kk : Z X L (zr N 0 :: S) (w ++ [zAi 2 M (fun _ => 0)]) (k + 1) (n + M) (pc + 2)) : Z X L (zi i :: S) w k n pc :=
  z_newa (at0 := .boolean) F N _ rfl (t := 2) (ty := .boolean) rfl (fun _ => rfl) (fun _ _ h => h) (fun _ _ => rfl) harr hi hM (by show M * _ ≤ _; simp only [componentBytes]; omega) hN hnw hwf hL hS hks hd kk
theorem z_newaB (F : zFix X cc own ret nL d mc ms nw np) {i : Int32} (M N : Nat) (harr : Cond.arrayClass .byte ∈ lw_all) (hi : ¬ i < 0) (hM : i.toNatClampNeg = M) (hb : M ≤ 67108864) (hN : w.length = N) (hnw : nw ≤ N) (hwf : zwf N w) (hL : L.all (zoN N) = true) (hS : S.all (zokN N) = true) (hks : k + 1 ≤ mc ∧ n + M ≤ ms) (hd : decode cc pc = .ok (.newarray .byte, 2))
    (kk : Z X L (zr N 0 :: S) (w ++ [zAi 3 M (fun _ => 0)]) (k + 1) (n + M) (pc + 2)) : Z X L (zi i :: S) w k n pc :=
  z_newa (at0 := .byte) F N _ rfl (t := 3) (ty := .byte) rfl (fun _ => rfl) (fun _ _ h => h) (fun _ _ => rfl) harr hi hM (by show M * _ ≤ _; simp only [componentBytes]; omega) hN hnw hwf hL hS hks hd kk
theorem z_newaJ (F : zFix X cc own ret nL d mc ms nw np) {i : Int32} (M N : Nat) (harr : Cond.arrayClass .long ∈ lw_all) (hi : ¬ i < 0) (hM : i.toNatClampNeg = M) (hb : M ≤ 67108864) (hN : w.length = N) (hnw : nw ≤ N) (hwf : zwf N w) (hL : L.all (zoN N) = true) (hS : S.all (zokN N) = true) (hks : k + 1 ≤ mc ∧ n + M ≤ ms) (hd : decode cc pc = .ok (.newarray .long, 2))
    (kk : Z X L (zr N 0 :: S) (w ++ [zAl 1 M (fun _ => 0)]) (k + 1) (n + M) (pc + 2)) : Z X L (zi i :: S) w k n pc :=
  z_newa (at0 := .long) F N _ rfl (t := 1) (ty := .long) rfl (fun _ => rfl) (fun _ _ h => h) (fun _ _ => rfl) harr hi hM (by show M * _ ≤ _; simp only [componentBytes]; omega) hN hnw hwf hL hS hks hd kk
end ZG2
end ZG1
