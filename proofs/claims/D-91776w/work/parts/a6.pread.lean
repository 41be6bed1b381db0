/-! read: WiredNets' operation (contracts of methods with handlers, at constants told) -/
section CA6
def zCtrWD (D : va_G) (y : MethodName) (cc : ByteArray) (nL : Nat) (ret : Option FieldType) (hh : List (Nat × Nat × Nat × Nat)) (d mc ms : Nat) (av : List zV) (w0 : List zE) (post : Option zV → List zE → Prop) (xpost : String → List zE → Prop) : Prop :=
  ∀ (l : Launch) (cA : Nat → ClassId) (ad0 : Nat → Nat → Nat) (sz : Nat), vx_Met l y (wsW_ y cc nL ret hh) (zRm d mc ms) (va_Pc (av.map (zcv ad0)) (zPc D cA ad0 w0 sz l)) (zQc D cA ad0 w0 sz post) (zXC D cA ad0 w0 sz xpost) mc ms (zfr ad0 w0 sz)
theorem z_startWD {D : va_G} {y : MethodName} {cc : ByteArray} {nL : Nat} {ret : Option FieldType} {hh : List (Nat × Nat × Nat × Nat)} {d mc ms : Nat} {av : List zV} {w0 : List zE} {post : Option zV → List zE → Prop} {xpost : String → List zE → Prop} (hy : plainName y.cls = true) (L0 : List (Option zV)) (hL0 : L0.length = nL) (hsl : ∀ ad, (lg_sl (av.map (zcv ad))).length ≤ nL) (hL : ∀ ad, zal ad L0 = lv_args 0 (av.map (zcv ad)))
    (body : ∀ X : zX, X.2.2.1 = D → zFix X cc y.cls ret nL d mc ms w0.length (zisP w0) → zEnd X post xpost mc ms → X.1.2.2.2.2.2.2.2.2.2.exceptionTable.toList = tableOf hh → X.1.2.2.2.2.2.2.2.2.1.name = y.name → Z X L0 [] w0 0 0 0) : zCtrWD D y cc nL ret hh d mc ms av w0 post xpost := by
  intro l cA ad0 sz
  refine vx_ofWH (cc := cc) (maxL := nL) (ret := ret) (hh := hh) hy rfl ?_
  intro p e s m args below meth c s₁ B hml hv
  obtain ⟨rfl, hsz, hR, hI, hK, hG⟩ := hv
  subst hsz
  have hts := atoms_spec (ws := wsW_ y cc nL ret hh) B.pre
  have ht := vx_table (x := y) B (hts _ List.mem_cons_self)
  have hts : ∀ w ∈ lw_all, w.before _ s = true := fun w h => hts w (List.mem_cons_of_mem _ h)
  have hl := lv_entry (av.map (zcv ad0)) (hsl ad0)
  have hb := body ((p, l, e, (headSpec (wsW_ y cc nL ret hh) (zRm d mc ms)).room, s, m, (av.map (zcv ad0)).toArray, below, meth, c), vx_MQ below (zQc D cA ad0 w0 s.heap.size post) (zXC D cA ad0 w0 s.heap.size xpost) (av.map (zcv ad0)).toArray s mc ms (zfr ad0 w0 s.heap.size), D, cA, zfr ad0 w0 s.heap.size, ad0, w0) rfl
    ⟨B.exec, B.bytes, findClass_of_methodNamed B.named, hts, hK, fun q h => Or.inr h, B.notSynchronized, B.returns, hml, rfl, hG, rfl, rfl⟩ ⟨rfl, rfl⟩ ht (name_of_methodNamed B.named B.method).1
    ad0 s.heap [] _ (fun _ _ _ _ => rfl) hR ⟨hI.1, fun p j c h => Or.inl ⟨p, j, c, h, rfl⟩⟩ va_S.rf (by unfold zLh; rw [hL0, hL]; exact hl)
  rw [lg_entry_eq]
  exact hb
section WX2
variable {X : zX} {cc : ByteArray} {own : String} {ret : Option FieldType} {nL d mc ms nw : Nat} {np : Bool} {L : List (Option zV)} {S : List zV} {w : List zE} {k n pc : Nat}
variable {post : Option zV → List zE → Prop} {xpost : String → List zE → Prop} {w0 : List zE} {y : MethodName} {cc' : ByteArray} {nL' d' mc' ms' idx : Nat} {ret' : Option FieldType} {hh : List (Nat × Nat × Nat × Nat)} {as st0 : List zV}
theorem z_callVWD (F : zFix X cc own ret nL d mc ms nw np) {p0 ci Nf : Nat} {fs : List zV} {T : u_T} {ty0 : Nat → FieldType} (C : zCtrWD X.2.2.1 y cc' nL' ret' hh d' mc' ms' (zr p0 0 :: as) w0 post xpost) (na : Nat) (hna : as.length = na) (hG : GoodIn lw_all (wsV own idx y.cls y (wsW_ y cc' nL' ret' hh))) (hy : y.cls = y.cls ∧ y.cls ≠ "java/lang/invoke/MethodHandle" ∧ y.cls ≠ "java/lang/invoke/VarHandle" ∧ (parseMethodDescriptor y.desc).map (fun d => d.parameters.length) = some na)
    (hrm : d' + 1 ≤ d ∧ nL' ≤ 41) (hks : k + mc' ≤ mc ∧ n + ms' ≤ ms) (σ : List Nat) (N : Nat) (hz : zcall σ N w w0) (hpl : zisP w0 = true → np = true) (hnw : nw ≤ N) (hkp : zkept σ N w0 w L S) (hnL : L.length = nL) (hC : zCl ci y.cls T Nf ty0) (hrc : zat w0 p0 0 = some (.inl (ci, fs))) (hst : st0 = (as.map (zrn (zsg σ N))).reverse ++ zr (zsg σ N p0) 0 :: S) (hd : decode cc pc = .ok (.invokevirtual idx, 3))
    (kk : ∀ r w1, post r w1 → Z X L ((r.map (zrn (zsg σ N))).toList ++ S) (zbk σ N w0 w1 0 w) (k + mc') (n + ms') (pc + 3))
    (kx : ∀ E w1, xpost E w1 → ZX X L (zbk σ N w0 w1 0 w) (k + mc') (n + ms') pc E N) : Z X L st0 w k n pc := fun ad H locs ls h0 h1 h2 h3 h4 => by
  refine z_go F hz hpl hnw hkp h0 h1 h2 h3 h4 (a := (Value.ref (zadc σ N ad p0 0) :: as.map (zcv (zadc σ N ad))).toArray) ?_ kk kx
  have hrel := hz.rel h1
  exact vx_runVX (As := as.map (zcv (zadc σ N ad))) ⟨F.1, F.2.1, F.2.2.2.2.2.2.2.2.1, F.2.2.1, F.2.2.2.1⟩ (C X.1.2.1 X.2.2.2.1 (zadc σ N ad) H.size) (vx_cwVW na F.2.2.2.1 hG rfl rfl rfl hy ⟨by rw [F.2.2.2.2.2.2.2.2.2.1]; exact hrm.1, by rw [F.2.2.2.2.2.2.2.2.2.1]; show 8 + (nL' + 11) + 60 * d' ≤ 60 * d; omega⟩)
    ⟨zPc_blind, va_recv F.2.2.2.2.1 (zsing (hrel p0 0 _ hrc)) (q0 := 0) hC.1 rfl, fun U hU hW => z_pre F hz h1 h2 h3 (av := zr p0 0 :: as) U hU hW⟩ rfl (by simpa using hna) (h4.1.trans hnL) (by subst hst; show List.map _ _ = _; rw [List.map_append, zstk]; rfl) (lv_room (by rw [zsum]; exact hkp.2.2.2.2)) hd (by rw [F.2.2.2.2.2.2.2.2.2.1]; exact hks)
theorem z_callSWD (F : zFix X cc own ret nL d mc ms nw np) (C : zCtrWD X.2.2.1 y cc' nL' ret' hh d' mc' ms' as w0 post xpost) (na : Nat) (hna : as.length = na) (hG : GoodIn lw_all (va_wsS own idx y (wsW_ y cc' nL' ret' hh))) (hy : y.cls ≠ "java/lang/invoke/MethodHandle" ∧ y.cls ≠ "java/lang/invoke/VarHandle" ∧ (parseMethodDescriptor y.desc).map (fun d => d.parameters.length) = some na)
    (hrm : d' + 1 ≤ d ∧ nL' ≤ 41) (hks : k + mc' ≤ mc ∧ n + ms' ≤ ms) (σ : List Nat) (N : Nat) (hz : zcall σ N w w0) (hpl : zisP w0 = true → np = true) (hnw : nw ≤ N) (hkp : zkept σ N w0 w L S) (hnL : L.length = nL) (hst : st0 = (as.map (zrn (zsg σ N))).reverse ++ S) (hd : decode cc pc = .ok (.invokestatic idx, 3))
    (kk : ∀ r w1, post r w1 → Z X L ((r.map (zrn (zsg σ N))).toList ++ S) (zbk σ N w0 w1 0 w) (k + mc') (n + ms') (pc + 3))
    (kx : ∀ E w1, xpost E w1 → ZX X L (zbk σ N w0 w1 0 w) (k + mc') (n + ms') pc E N) : Z X L st0 w k n pc := fun ad H locs ls h0 h1 h2 h3 h4 => by
  refine z_go F hz hpl hnw hkp h0 h1 h2 h3 h4 (a := (as.map (zcv (zadc σ N ad))).toArray) ?_ kk kx
  exact vx_runSX (As := as.map (zcv (zadc σ N ad))) ⟨F.1, F.2.1, F.2.2.2.2.2.2.2.2.1, F.2.2.1, F.2.2.2.1⟩ (C X.1.2.1 X.2.2.2.1 (zadc σ N ad) H.size) (vx_cwSW na F.2.2.2.1 hG rfl rfl rfl hy ⟨by rw [F.2.2.2.2.2.2.2.2.2.1]; exact hrm.1, by rw [F.2.2.2.2.2.2.2.2.2.1]; show 8 + (nL' + 11) + 60 * d' ≤ 60 * d; omega⟩)
    ⟨zPc_blind, fun U hU hW => z_pre F hz h1 h2 h3 U hU hW⟩ rfl (by simpa using hna) (h4.1.trans hnL) (by subst hst; show List.map _ _ = _; rw [List.map_append, zstk]; rfl) (lv_room (by rw [zsum]; exact hkp.2.2.2.2)) hd (by rw [F.2.2.2.2.2.2.2.2.2.1]; exact hks)
theorem zx_outH (F : zFix X cc own ret nL d mc ms nw np) {post : Option zV → List zE → Prop} {xpost : String → List zE → Prop} (E : zEnd X post xpost mc ms) {hh : List (Nat × Nat × Nat × Nat)} (hT : X.1.2.2.2.2.2.2.2.2.2.exceptionTable.toList = tableOf hh) (hcov : ∀ x ∈ tableOf hh, covers x pc = false) {Ex : String} (hk : k ≤ mc) (hn : n ≤ ms) (hp : xpost Ex w) : ZX X L w k n pc Ex nw := fun ad H locs ls st ce h0 h1 h2 h3 h4 h5 h6 h7 => by
  have hw0 : X.2.2.2.2.2.2.length = nw := F.2.2.2.2.2.2.2.2.2.2.2.1
  have hq : ∀ t : State, t.heap = H → X.1.2.2.2.2.1.vm.Alike t.vm → zXC X.2.2.1 X.2.2.2.1 X.2.2.2.2.2.1 X.2.2.2.2.2.2 X.1.2.2.2.2.1.heap.size xpost Ex (ad nw 0) X.1.2.2.2.2.1 t := fun t ht _ => by
    rw [E.2] at h2 h3
    exact ⟨⟨w, ad, hp, h0, by rw [ht]; exact h1, h2, by rw [hw0]⟩, h3.F ht⟩
  rw [E.1]
  exact vx_out (fun x hx => hcov x (by rw [← hT]; exact hx)) F.2.2.2.2.2.2.1 h5 h6 h7 hq (fun q hq => by have := h3.2.2 q hq; rwa [E.2] at this) hk hn
end WX2
theorem c_readerInit (z : Nat) : zCtr yX7_init cX7_init 3 none 1 1 12 [zr 2 0, zr 1 0, zi (nI z)] [zH, zH, zO 7 [zi 0, zn, zi 0, zi 0, zi 0, zi 0, zi 0, zi 0, zn, zi 0, zn]] (fun r w => r = none ∧ w = [zH, zH, zO 7 [zi (nI z), zr 3 0, zi (nI 0), zi (nI 0), zi (nI 0), zi (nI 0), zi (nI 0), zi (nI 0), zn, zi (nI 0), zr 1 0], zAi 0 12 (fun _ => 0)]) zNx := by
  refine z_start (by decide) [some (zr 2 0), some (zr 1 0), some (zi (nI z))] rfl (fun _ => Nat.le_of_ble_eq_true rfl) (fun _ => rfl) (fun X F E hno hin => ?_)
  refine z_aload_n F dX7_init_0 rfl ?_
  refine z_aload_n F dX7_init_1 rfl ?_
  refine z_putF F zC7 (f := 10) rfl (Nat.le_of_ble_eq_true rfl) q573 rfl hin rfl (fun _ => rfl) (fun _ => rfl) (Nat.le_of_ble_eq_true rfl) dX7_init_2 ?_
  refine z_weq (w' := [_, _, zO _ [_, _, _, _, _, _, _, _, _, _, _]]) rfl ?_
  refine z_aload_n F dX7_init_5 rfl ?_
  refine z_objInit F q561 q149 q150 dX7_init_6 (Nat.le_of_ble_eq_true rfl) rfl (Nat.le_of_ble_eq_true rfl) ?_
  refine z_aload_n F dX7_init_9 rfl ?_
  refine z_bipush F (nI 12) dX7_init_10 rfl ?_
  refine z_newaI F 12 3 q174 (nI_pos (by omega)) (zcl_n (by omega)) (by omega) rfl (Nat.le_of_ble_eq_true rfl) ⟨trivial, trivial, rfl, trivial⟩ rfl rfl ⟨by omega, by omega⟩ dX7_init_12 ?_
  refine z_weq (w' := [_, _, _, _]) rfl ?_
  refine z_putF F zC7 (f := 1) rfl (Nat.le_of_ble_eq_true rfl) q563 rfl hin rfl (fun _ => rfl) (fun _ => rfl) (Nat.le_of_ble_eq_true rfl) dX7_init_14 ?_
  refine z_weq (w' := [_, _, zO _ [_, _, _, _, _, _, _, _, _, _, _], _]) rfl ?_
  refine z_aload_n F dX7_init_17 rfl ?_
  refine z_iload_n F dX7_init_18 rfl ?_
  refine z_putF F zC7 (f := 0) rfl (Nat.le_of_ble_eq_true rfl) q562 rfl hin rfl (fun _ => rfl) (fun _ => rfl) (Nat.le_of_ble_eq_true rfl) dX7_init_19 ?_
  refine z_weq (w' := [_, _, zO _ [_, _, _, _, _, _, _, _, _, _, _], _]) rfl ?_
  exact z_vret F E rfl dX7_init_22 (by omega) (by omega) (⟨rfl, rfl⟩)
def hhRd : List (Nat × Nat × Nat × Nat) := [(47, 58, 59, 118)]
theorem rd_hok : zHok "WiredNets" 118 "WiredNets$Wrong" eWrg = true := by decide +kernel
theorem c_pread (Dg : va_G) (P : zPt) (t : Nat) (fp : Int32) (T : Nat → Int32) (tb : Nat → Nat) (z j : Nat) (hj : j < 8) (hzt : z ≤ t) (ht4 : t ≤ 400) (hT2 : tBy T tb z) (htb : ∀ i, tb i < 256) : zCtrWD Dg yX1_read cX1_read 5 (some .int) hhRd 9 8 160 [zr 1 0, zi (nI j), zi (nI z)] (xT P t fp T)
    (fun r w => (∃ e b, rdS tb z = .inl (e, b) ∧ r = some (zi (nI e)) ∧ w = xT P 0 (nI b) T) ∨ (∃ n d f, rdS tb z = .inr (n, d, f) ∧ r = some (zi (nI 0)) ∧ w = xT (zput P j (some (nI n, nI d, f))) 0 (-1) T)) zNx := by
  refine z_startWD (by decide) [some (zr 1 0), some (zi (nI j)), some (zi (nI z)), none, none] rfl (fun _ => Nat.le_of_ble_eq_true rfl) (fun _ => rfl) (fun X hD F E hT hin => ?_)
  subst hD
  have hz : z ≤ 400 := by omega
  have H1 : ∀ (k0 n0 b e u m c : Nat) (g' : Nat → Int32), k0 ≤ 8 → n0 ≤ 160 → rdS tb z = .inl (e, b) → Z X [some (zr 1 0), some (zi (nI j)), some (zi (nI z)), some (zr 22 0), none] [zr 24 0] [zPl (pR P) P, xO 0 (-1), zAi 3 400 T, zH, zH, zH, zH, zH, zH, zH, zH, zH, zH, zH, zH, zH, zH, zH, zH, zH, zH, zH, eRd z (en tb z b) (kd tb z b) b (en tb z b) u m zn c, zAi 0 12 g', eWr e] k0 n0 59 := by
    intro k0 n0 b e u m c g' hk0 hn0 hrd
    refine z_astore F dX1_read_59 (Nat.le_of_ble_eq_true rfl) ?_
    refine z_leq (L' := [_, _, _, _, _]) rfl ?_
    refine z_aload_n F dX1_read_61 rfl ?_
    refine z_aload_n F dX1_read_62 rfl ?_
    refine z_getN F zC7 (f := 4) rfl (Nat.le_of_ble_eq_true rfl) q567 rfl dX1_read_63 ?_
    refine z_put F zC1 (f := 6) rfl (Nat.le_of_ble_eq_true rfl) q320 rfl (fun _ => rfl) (fun _ => rfl) (Nat.le_of_ble_eq_true rfl) dX1_read_66 ?_
    refine z_weq (w' := [_, zO _ [_, _, _, _, _, _, _, _, _], _, _, _, _, _, _, _, _, _, _, _, _, _, _, _, _, _, _, _, _, _, _, _]) rfl ?_
    refine z_aload F dX1_read_69 rfl ?_
    refine z_getN F zC8 (f := 6) rfl (Nat.le_of_ble_eq_true rfl) q701 rfl dX1_read_71 ?_
    refine z_take F 22 [zPl _ _, zO _ [zr _ _, zr _ _, zr _ _, zr _ _, zr _ _, zi _, zi _, zr _ _, zr _ _], zAi 3 400 _, zH, zH, zH, zH, zH, zH, zH, zH, zH, zH, zH, zH, zH, zH, zH, zH, zH, zH, zH] rfl ?_
    exact z_iret F E rfl dX1_read_74 (by omega) (by omega) (Or.inl ⟨e, b, hrd, rfl, rfl⟩)
  have H2 : ∀ (k0 n0 b e u m c n d : Nat) (f g' : Nat → Int32), k0 ≤ 8 → n0 ≤ 160 → rdS tb z = .inl (e, b) → Z X [some (zr 1 0), some (zi (nI j)), some (zi (nI z)), some (zr 22 0), none] [zr 24 0] [zPl (pR P) P, xO 0 (-1), zAi 3 400 T, zH, zH, zH, zH, zH, zH, zH, zH, zH, zH, zH, zH, zH, zH, zH, zH, zH, zH, zH, eRd z (en tb z b) (kd tb z b) b (en tb z b) u m (zr 25 0) c, zAi 0 12 g', eWr e, eNet 26 (nI n) (nI d), zAi 0 24 f] k0 n0 59 := by
    intro k0 n0 b e u m c n d f g' hk0 hn0 hrd
    refine z_astore F dX1_read_59 (Nat.le_of_ble_eq_true rfl) ?_
    refine z_leq (L' := [_, _, _, _, _]) rfl ?_
    refine z_aload_n F dX1_read_61 rfl ?_
    refine z_aload_n F dX1_read_62 rfl ?_
    refine z_getN F zC7 (f := 4) rfl (Nat.le_of_ble_eq_true rfl) q567 rfl dX1_read_63 ?_
    refine z_put F zC1 (f := 6) rfl (Nat.le_of_ble_eq_true rfl) q320 rfl (fun _ => rfl) (fun _ => rfl) (Nat.le_of_ble_eq_true rfl) dX1_read_66 ?_
    refine z_weq (w' := [_, zO _ [_, _, _, _, _, _, _, _, _], _, _, _, _, _, _, _, _, _, _, _, _, _, _, _, _, _, _, _, _, _, _, _, _, _]) rfl ?_
    refine z_aload F dX1_read_69 rfl ?_
    refine z_getN F zC8 (f := 6) rfl (Nat.le_of_ble_eq_true rfl) q701 rfl dX1_read_71 ?_
    refine z_take F 22 [zPl _ _, zO _ [zr _ _, zr _ _, zr _ _, zr _ _, zr _ _, zi _, zi _, zr _ _, zr _ _], zAi 3 400 _, zH, zH, zH, zH, zH, zH, zH, zH, zH, zH, zH, zH, zH, zH, zH, zH, zH, zH, zH] rfl ?_
    exact z_iret F E rfl dX1_read_74 (by omega) (by omega) (Or.inl ⟨e, b, hrd, rfl, rfl⟩)
  refine z_iload_n F dX1_read_0 rfl ?_
  refine z_callS F (c_xSlot (nI j)) 1 rfl (lw_S q346 q347 q109 q348) (by decide +kernel) ⟨Nat.le_of_ble_eq_true rfl, Nat.le_of_ble_eq_true rfl⟩ ⟨by omega, by omega⟩ [0] 22 ⟨rfl, rfl, rfl, ⟨Or.inl rfl, trivial⟩⟩ (fun h => nomatch h) (Nat.le_of_ble_eq_true rfl) ⟨⟨Or.inr (by first | exact ⟨rfl, pR_B _ (by decide)⟩ | exact ⟨rfl, uR_B (by decide) (by decide)⟩), Or.inr rfl, Or.inr trivial, Or.inr trivial, Or.inr trivial, Or.inr trivial, Or.inr trivial, Or.inr trivial, Or.inr trivial, Or.inr trivial, Or.inr trivial, Or.inr trivial, Or.inr trivial, Or.inr trivial, Or.inr trivial, Or.inr trivial, Or.inr trivial, Or.inr trivial, Or.inr trivial, Or.inr trivial, Or.inr trivial, Or.inr trivial, trivial⟩, rfl, rfl, rfl, Nat.le_of_ble_eq_true rfl⟩ rfl rfl dX1_read_1 (fun r_1 w_1 hp => ?_) (fun _ _ h => h.elim)
  obtain ⟨rfl, rfl⟩ := hp
  rw [slB_n hj]
  refine z_weq (w' := [zPl _ _, zO _ [zr _ _, zr _ _, zr _ _, zr _ _, zr _ _, zi _, zi _, zr _ _, zr _ _], zAi 3 400 _, zH, zH, zH, zH, zH, zH, zH, zH, zH, zH, zH, zH, zH, zH, zH, zH, zH, zH, zH]) rfl ?_
  refine z_seq (S' := zi _ :: _) rfl ?_
  refine z_callS F (c_fnd true) 1 rfl (lw_S q433 q434 q109 q435) (by decide +kernel) ⟨Nat.le_of_ble_eq_true rfl, Nat.le_of_ble_eq_true rfl⟩ ⟨by omega, by omega⟩ [0] 22 ⟨rfl, rfl, rfl, ⟨Or.inl rfl, trivial⟩⟩ (fun h => nomatch h) (Nat.le_of_ble_eq_true rfl) ⟨⟨Or.inr (by first | exact ⟨rfl, pR_B _ (by decide)⟩ | exact ⟨rfl, uR_B (by decide) (by decide)⟩), Or.inr rfl, Or.inr trivial, Or.inr trivial, Or.inr trivial, Or.inr trivial, Or.inr trivial, Or.inr trivial, Or.inr trivial, Or.inr trivial, Or.inr trivial, Or.inr trivial, Or.inr trivial, Or.inr trivial, Or.inr trivial, Or.inr trivial, Or.inr trivial, Or.inr trivial, Or.inr trivial, Or.inr trivial, Or.inr trivial, Or.inr trivial, trivial⟩, rfl, rfl, rfl, Nat.le_of_ble_eq_true rfl⟩ rfl rfl dX1_read_4 (fun r_4 w_4 hp => ?_) (fun E_ w_ hx => by obtain ⟨-, hb, -⟩ := hx; cases hb)
  obtain ⟨rfl, -, rfl⟩ := hp
  refine z_weq (w' := [zPl _ _, zO _ [zr _ _, zr _ _, zr _ _, zr _ _, zr _ _, zi _, zi _, zr _ _, zr _ _], zAi 3 400 _, zH, zH, zH, zH, zH, zH, zH, zH, zH, zH, zH, zH, zH, zH, zH, zH, zH, zH, zH]) rfl ?_
  refine z_seq (S' := []) rfl ?_
  refine z_iload_n F dX1_read_7 rfl ?_
  refine z_if_ltN F (by omega) (tgt := 23) dX1_read_8 (by decide) (fun c_8 => ?_) (fun c_8 => ?_)
  · exact absurd c_8 (by omega)
  · refine z_iload_n F dX1_read_11 rfl ?_
    refine z_aload_n F dX1_read_12 rfl ?_
    refine z_get F zC1 (f := 5) rfl (Nat.le_of_ble_eq_true rfl) q319 rfl dX1_read_13 ?_
    refine z_icmp_gtN F (by omega) (by omega) (tgt := 23) dX1_read_16 (by decide) (fun c_16 => ?_) (fun c_16 => ?_)
    · exact absurd c_16 (by omega)
    · refine z_iconstB F true dX1_read_19 rfl ?_
      refine z_goto F (tgt := 24) dX1_read_20 (by decide) ?_
      refine z_callS F (c_rgt true) 1 rfl (lw_S q538 q539 q109 q540) (by decide +kernel) ⟨Nat.le_of_ble_eq_true rfl, Nat.le_of_ble_eq_true rfl⟩ ⟨by omega, by omega⟩ [0] 22 ⟨rfl, rfl, rfl, ⟨Or.inl rfl, trivial⟩⟩ (fun h => nomatch h) (Nat.le_of_ble_eq_true rfl) ⟨⟨Or.inr (by first | exact ⟨rfl, pR_B _ (by decide)⟩ | exact ⟨rfl, uR_B (by decide) (by decide)⟩), Or.inr rfl, Or.inr trivial, Or.inr trivial, Or.inr trivial, Or.inr trivial, Or.inr trivial, Or.inr trivial, Or.inr trivial, Or.inr trivial, Or.inr trivial, Or.inr trivial, Or.inr trivial, Or.inr trivial, Or.inr trivial, Or.inr trivial, Or.inr trivial, Or.inr trivial, Or.inr trivial, Or.inr trivial, Or.inr trivial, Or.inr trivial, trivial⟩, rfl, rfl, rfl, Nat.le_of_ble_eq_true rfl⟩ rfl rfl dX1_read_24 (fun r_24 w_24 hp => ?_) (fun E_ w_ hx => by obtain ⟨-, hb, -⟩ := hx; cases hb)
      obtain ⟨rfl, -, rfl⟩ := hp
      refine z_weq (w' := [zPl _ _, zO _ [zr _ _, zr _ _, zr _ _, zr _ _, zr _ _, zi _, zi _, zr _ _, zr _ _], zAi 3 400 _, zH, zH, zH, zH, zH, zH, zH, zH, zH, zH, zH, zH, zH, zH, zH, zH, zH, zH, zH]) rfl ?_
      refine z_seq (S' := []) rfl ?_
      refine z_aload_n F dX1_read_27 rfl ?_
      refine z_iconst F (nI 0) dX1_read_28 rfl ?_
      refine z_put F zC1 (f := 5) rfl (Nat.le_of_ble_eq_true rfl) q319 rfl (fun _ => rfl) (fun _ => rfl) (Nat.le_of_ble_eq_true rfl) dX1_read_29 ?_
      refine z_weq (w' := [_, zO _ [_, _, _, _, _, _, _, _, _], _, _, _, _, _, _, _, _, _, _, _, _, _, _, _, _, _, _, _, _]) rfl ?_
      refine z_aload_n F dX1_read_32 rfl ?_
      refine z_iconst F (-1) dX1_read_33 rfl ?_
      refine z_put F zC1 (f := 6) rfl (Nat.le_of_ble_eq_true rfl) q320 rfl (fun _ => rfl) (fun _ => rfl) (Nat.le_of_ble_eq_true rfl) dX1_read_34 ?_
      refine z_weq (w' := [_, zO _ [_, _, _, _, _, _, _, _, _], _, _, _, _, _, _, _, _, _, _, _, _, _, _, _, _, _, _, _, _]) rfl ?_
      refine z_new F 22 [zi 0, zn, zi 0, zi 0, zi 0, zi 0, zi 0, zi 0, zn, zi 0, zn] zC7 q556 q557 q125 (fun _ j hj => by match j, hj with | 0, _ => rfl | 1, _ => rfl | 2, _ => rfl | 3, _ => rfl | 4, _ => rfl | 5, _ => rfl | 6, _ => rfl | 7, _ => rfl | 8, _ => rfl | 9, _ => rfl | 10, _ => rfl) rfl (Nat.le_of_ble_eq_true rfl) (Nat.le_of_ble_eq_true rfl) ⟨(by first | exact pR_N _ (Nat.le_of_ble_eq_true rfl) | exact uR_N (Nat.le_of_ble_eq_true rfl) (Nat.le_of_ble_eq_true rfl)), rfl, trivial, trivial, trivial, trivial, trivial, trivial, trivial, trivial, trivial, trivial, trivial, trivial, trivial, trivial, trivial, trivial, trivial, trivial, trivial, trivial, trivial⟩ rfl rfl ⟨by omega, by omega⟩ dX1_read_37 ?_
      refine z_weq (w' := [_, _, _, _, _, _, _, _, _, _, _, _, _, _, _, _, _, _, _, _, _, _, _]) rfl ?_
      refine z_dup F dX1_read_40 rfl ?_
      refine z_aload_n F dX1_read_41 rfl ?_
      refine z_iload_n F dX1_read_42 rfl ?_
      refine z_callI F (c_readerInit z) 2 rfl (lw_meth q560) q125 q558 q559 rfl (by decide +kernel) ⟨Nat.le_of_ble_eq_true rfl, Nat.le_of_ble_eq_true rfl⟩ ⟨by omega, by omega⟩ [0, 1, 22] 23 ⟨rfl, rfl, rfl, ⟨Or.inl rfl, Or.inl rfl, Or.inr rfl, trivial⟩⟩ (fun h => nomatch h) (Nat.le_of_ble_eq_true rfl) ⟨⟨Or.inr (by first | exact ⟨rfl, pR_B _ (by decide)⟩ | exact ⟨rfl, uR_B (by decide) (by decide)⟩), Or.inr rfl, Or.inr trivial, Or.inr trivial, Or.inr trivial, Or.inr trivial, Or.inr trivial, Or.inr trivial, Or.inr trivial, Or.inr trivial, Or.inr trivial, Or.inr trivial, Or.inr trivial, Or.inr trivial, Or.inr trivial, Or.inr trivial, Or.inr trivial, Or.inr trivial, Or.inr trivial, Or.inr trivial, Or.inr trivial, Or.inr trivial, Or.inl rfl, trivial⟩, rfl, rfl, rfl, Nat.le_of_ble_eq_true rfl⟩ rfl rfl dX1_read_43 (fun r_43 w_43 hp => ?_) (fun _ _ h => h.elim)
      obtain ⟨rfl, rfl⟩ := hp
      refine z_weq (w' := [zPl _ _, zO _ [zr _ _, zr _ _, zr _ _, zr _ _, zr _ _, zi _, zi _, zr _ _, zr _ _], zAi 3 400 _, zH, zH, zH, zH, zH, zH, zH, zH, zH, zH, zH, zH, zH, zH, zH, zH, zH, zH, zH, zO _ [zi _, zr _ _, zi _, zi _, zi _, zi _, zi _, zi _, zn, zi _, zr _ _], zAi 0 12 _]) rfl ?_
      refine z_seq (S' := [_]) rfl ?_
      refine z_astore_n F dX1_read_46 (Nat.le_of_ble_eq_true rfl) ?_
      refine z_leq (L' := [_, _, _, _, _]) rfl ?_
      refine z_aload_n F dX1_read_47 rfl ?_
      refine z_get F zC1 (f := 0) rfl (Nat.le_of_ble_eq_true rfl) q313 rfl dX1_read_48 ?_
      refine z_iload_n F dX1_read_51 rfl ?_
      refine z_aload_n F dX1_read_52 rfl ?_
      refine z_callVD F (c_rd7 _ 0 (-1) T (fun _ => 0) tb z hz hT2 htb) 0 rfl (lw_V q597 q598 q599 q125 q600) (by decide +kernel) ⟨Nat.le_of_ble_eq_true rfl, Nat.le_of_ble_eq_true rfl⟩ ⟨by omega, by omega⟩ [0, 1, 2, 3, 4, 5, 6, 7, 8, 9, 10, 11, 12, 13, 14, 15, 16, 17, 18, 19, 20, 21, 22, 23] 24 ⟨rfl, rfl, rfl, ⟨Or.inl rfl, Or.inr rfl, Or.inr rfl, Or.inl rfl, Or.inl rfl, Or.inl rfl, Or.inl rfl, Or.inl rfl, Or.inl rfl, Or.inl rfl, Or.inl rfl, Or.inl rfl, Or.inl rfl, Or.inl rfl, Or.inl rfl, Or.inl rfl, Or.inl rfl, Or.inl rfl, Or.inl rfl, Or.inl rfl, Or.inl rfl, Or.inl rfl, Or.inr rfl, Or.inr rfl, trivial⟩⟩ (fun h => nomatch h) (Nat.le_of_ble_eq_true rfl) ⟨⟨Or.inr (by first | exact ⟨rfl, pR_B _ (by decide)⟩ | exact ⟨rfl, uR_B (by decide) (by decide)⟩), Or.inl rfl, Or.inl rfl, Or.inr trivial, Or.inr trivial, Or.inr trivial, Or.inr trivial, Or.inr trivial, Or.inr trivial, Or.inr trivial, Or.inr trivial, Or.inr trivial, Or.inr trivial, Or.inr trivial, Or.inr trivial, Or.inr trivial, Or.inr trivial, Or.inr trivial, Or.inr trivial, Or.inr trivial, Or.inr trivial, Or.inr trivial, Or.inl rfl, Or.inl rfl, trivial⟩, rfl, rfl, rfl, Nat.le_of_ble_eq_true rfl⟩ rfl zC7 rfl rfl dX1_read_53 (fun r_53 w_53 hp => ?_) (fun E_ w_ hx => by obtain ⟨rfl, e, b, g', u, m, c, hrd, hw⟩ := hx; exact hw.elim (fun q => by subst q; exact zx_catch F hT [] ⟨47, 58, 59, 118⟩ [] rfl (fun _ h => nomatch h) (by decide) (by decide) rd_hok (H1 _ _ b e u m c g' (by omega) (by omega) hrd)) (fun ⟨n, d, f, q⟩ => by subst q; exact zx_catch F hT [] ⟨47, 58, 59, 118⟩ [] rfl (fun _ h => nomatch h) (by decide) (by decide) rd_hok (H2 _ _ b e u m c n d f g' (by omega) (by omega) hrd)))
      obtain ⟨n, d, f, g', b, u, m, c, hrd, rfl, rfl⟩ := hp
      refine z_weq (w' := [zPl _ _, zO _ [zr _ _, zr _ _, zr _ _, zr _ _, zr _ _, zi _, zi _, zr _ _, zr _ _], zAi 3 400 _, zH, zH, zH, zH, zH, zH, zH, zH, zH, zH, zH, zH, zH, zH, zH, zH, zH, zH, zH, zO _ [zi _, zr _ _, zi _, zi _, zi _, zi _, zi _, zi _, zr _ _, zi _, zr _ _], zAi 0 12 _, zO _ [zi _, zi _, zr _ _], zAi 0 24 _]) rfl ?_
      refine z_seq (S' := zr _ _ :: _) rfl ?_
      refine z_aastP F (by omega) rfl dX1_read_56 ?_
      refine z_weq (w' := [_, _, _, _, _, _, _, _, _, _, _, _, _, _, _, _, _, _, _, _, _, _, _, _, _, _]) rfl ?_
      refine z_loc [some _, some _, some _, none, none] ⟨rfl, rfl, rfl, trivial⟩ ?_
      refine z_unfocus F rfl j 24 25 22 hj zput_self rfl rfl (Nat.le_of_ble_eq_true rfl) (Nat.le_of_ble_eq_true rfl) (Nat.le_of_ble_eq_true rfl) (Nat.le_of_ble_eq_true rfl) [zO _ [zr _ _, zr _ _, zr _ _, zr _ _, zr _ _, zi _, zi _, zr _ _, zr _ _], zAi 3 400 _, zH, zH, zH, zH, zH, zH, zH, zH, zH, zH, zH, zH, zH, zH, zH, zH, zH, zH, zH] rfl ⟨rfl, trivial, trivial, trivial, trivial, trivial, trivial, trivial, trivial, trivial, trivial, trivial, trivial, trivial, trivial, trivial, trivial, trivial, trivial, trivial, trivial, trivial⟩ uOK rfl rfl ?_
      refine z_weq (w' := zPl (pR (zput P j (some _))) (zput P j (some _)) :: _) (congrArg (fun z => z :: _) uPl1) ?_
      refine z_iconst F (nI 0) dX1_read_57 rfl ?_
      exact z_iret F E rfl dX1_read_58 (by omega) (by omega) (Or.inr ⟨n, d, f, hrd, rfl, rfl⟩)
theorem c_pread_no (Dg : va_G) (P : zPt) (t : Nat) (fp : Int32) (s v : Int32) (hs : slB s = false) : zCtrWD Dg yX1_read cX1_read 5 (some .int) hhRd 9 8 160 [zr 1 0, zi s, zi v] (xH P t fp) (fun r w => False) (fun E w => E = eNSE ∧ True ∧ w = xH P t fp) := by
  refine z_startWD (by decide) [some (zr 1 0), some (zi s), some (zi v), none, none] rfl (fun _ => Nat.le_of_ble_eq_true rfl) (fun _ => rfl) (fun X hD F E hT hin => ?_)
  subst hD
  refine z_iload_n F dX1_read_0 rfl ?_
  refine z_callS F (c_xSlot s) 1 rfl (lw_S q346 q347 q109 q348) (by decide +kernel) ⟨Nat.le_of_ble_eq_true rfl, Nat.le_of_ble_eq_true rfl⟩ ⟨by omega, by omega⟩ [0] 22 ⟨rfl, rfl, rfl, ⟨Or.inl rfl, trivial⟩⟩ (fun h => nomatch h) (Nat.le_of_ble_eq_true rfl) ⟨⟨Or.inr (by first | exact ⟨rfl, pR_B _ (by decide)⟩ | exact ⟨rfl, uR_B (by decide) (by decide)⟩), Or.inr rfl, Or.inr trivial, Or.inr trivial, Or.inr trivial, Or.inr trivial, Or.inr trivial, Or.inr trivial, Or.inr trivial, Or.inr trivial, Or.inr trivial, Or.inr trivial, Or.inr trivial, Or.inr trivial, Or.inr trivial, Or.inr trivial, Or.inr trivial, Or.inr trivial, Or.inr trivial, Or.inr trivial, Or.inr trivial, Or.inr trivial, trivial⟩, rfl, rfl, rfl, Nat.le_of_ble_eq_true rfl⟩ rfl rfl dX1_read_1 (fun r_1 w_1 hp => ?_) (fun _ _ h => h.elim)
  obtain ⟨rfl, rfl⟩ := hp
  rw [hs]
  refine z_weq (w' := [zPl _ _, zO _ [zr _ _, zr _ _, zr _ _, zr _ _, zr _ _, zi _, zi _, zr _ _, zr _ _], zH, zH, zH, zH, zH, zH, zH, zH, zH, zH, zH, zH, zH, zH, zH, zH, zH, zH, zH, zH]) rfl ?_
  refine z_seq (S' := zi _ :: _) rfl ?_
  refine z_callS F (c_fnd false) 1 rfl (lw_S q433 q434 q109 q435) (by decide +kernel) ⟨Nat.le_of_ble_eq_true rfl, Nat.le_of_ble_eq_true rfl⟩ ⟨by omega, by omega⟩ [0] 22 ⟨rfl, rfl, rfl, ⟨Or.inl rfl, trivial⟩⟩ (fun h => nomatch h) (Nat.le_of_ble_eq_true rfl) ⟨⟨Or.inr (by first | exact ⟨rfl, pR_B _ (by decide)⟩ | exact ⟨rfl, uR_B (by decide) (by decide)⟩), Or.inr rfl, Or.inr trivial, Or.inr trivial, Or.inr trivial, Or.inr trivial, Or.inr trivial, Or.inr trivial, Or.inr trivial, Or.inr trivial, Or.inr trivial, Or.inr trivial, Or.inr trivial, Or.inr trivial, Or.inr trivial, Or.inr trivial, Or.inr trivial, Or.inr trivial, Or.inr trivial, Or.inr trivial, Or.inr trivial, Or.inr trivial, trivial⟩, rfl, rfl, rfl, Nat.le_of_ble_eq_true rfl⟩ rfl rfl dX1_read_4 (fun r_4 w_4 hp => ?_) (fun E_ w_ hx => by obtain ⟨rfl, hb, rfl⟩ := hx; exact zx_outH F E hT (by decide +kernel) (by omega) (by omega) (⟨rfl, trivial, rfl⟩))
  exact nomatch hp.2.1
theorem c_pread_bad (Dg : va_G) (P : zPt) (t : Nat) (fp : Int32) (j : Nat) (v : Int32) (hj : j < 8) (ht4 : t ≤ 400) (hv : ∀ i, i < t + 1 → ¬ v = nI i) : zCtrWD Dg yX1_read cX1_read 5 (some .int) hhRd 9 8 160 [zr 1 0, zi (nI j), zi v] (xH P t fp) (fun r w => False) (fun E w => E = eIAE ∧ True ∧ w = xH P t fp) := by
  refine z_startWD (by decide) [some (zr 1 0), some (zi (nI j)), some (zi v), none, none] rfl (fun _ => Nat.le_of_ble_eq_true rfl) (fun _ => rfl) (fun X hD F E hT hin => ?_)
  subst hD
  refine z_iload_n F dX1_read_0 rfl ?_
  refine z_callS F (c_xSlot (nI j)) 1 rfl (lw_S q346 q347 q109 q348) (by decide +kernel) ⟨Nat.le_of_ble_eq_true rfl, Nat.le_of_ble_eq_true rfl⟩ ⟨by omega, by omega⟩ [0] 22 ⟨rfl, rfl, rfl, ⟨Or.inl rfl, trivial⟩⟩ (fun h => nomatch h) (Nat.le_of_ble_eq_true rfl) ⟨⟨Or.inr (by first | exact ⟨rfl, pR_B _ (by decide)⟩ | exact ⟨rfl, uR_B (by decide) (by decide)⟩), Or.inr rfl, Or.inr trivial, Or.inr trivial, Or.inr trivial, Or.inr trivial, Or.inr trivial, Or.inr trivial, Or.inr trivial, Or.inr trivial, Or.inr trivial, Or.inr trivial, Or.inr trivial, Or.inr trivial, Or.inr trivial, Or.inr trivial, Or.inr trivial, Or.inr trivial, Or.inr trivial, Or.inr trivial, Or.inr trivial, Or.inr trivial, trivial⟩, rfl, rfl, rfl, Nat.le_of_ble_eq_true rfl⟩ rfl rfl dX1_read_1 (fun r_1 w_1 hp => ?_) (fun _ _ h => h.elim)
  obtain ⟨rfl, rfl⟩ := hp
  rw [slB_n hj]
  refine z_weq (w' := [zPl _ _, zO _ [zr _ _, zr _ _, zr _ _, zr _ _, zr _ _, zi _, zi _, zr _ _, zr _ _], zH, zH, zH, zH, zH, zH, zH, zH, zH, zH, zH, zH, zH, zH, zH, zH, zH, zH, zH, zH]) rfl ?_
  refine z_seq (S' := zi _ :: _) rfl ?_
  refine z_callS F (c_fnd true) 1 rfl (lw_S q433 q434 q109 q435) (by decide +kernel) ⟨Nat.le_of_ble_eq_true rfl, Nat.le_of_ble_eq_true rfl⟩ ⟨by omega, by omega⟩ [0] 22 ⟨rfl, rfl, rfl, ⟨Or.inl rfl, trivial⟩⟩ (fun h => nomatch h) (Nat.le_of_ble_eq_true rfl) ⟨⟨Or.inr (by first | exact ⟨rfl, pR_B _ (by decide)⟩ | exact ⟨rfl, uR_B (by decide) (by decide)⟩), Or.inr rfl, Or.inr trivial, Or.inr trivial, Or.inr trivial, Or.inr trivial, Or.inr trivial, Or.inr trivial, Or.inr trivial, Or.inr trivial, Or.inr trivial, Or.inr trivial, Or.inr trivial, Or.inr trivial, Or.inr trivial, Or.inr trivial, Or.inr trivial, Or.inr trivial, Or.inr trivial, Or.inr trivial, Or.inr trivial, Or.inr trivial, trivial⟩, rfl, rfl, rfl, Nat.le_of_ble_eq_true rfl⟩ rfl rfl dX1_read_4 (fun r_4 w_4 hp => ?_) (fun E_ w_ hx => by obtain ⟨-, hb, -⟩ := hx; cases hb)
  obtain ⟨rfl, -, rfl⟩ := hp
  refine z_weq (w' := [zPl _ _, zO _ [zr _ _, zr _ _, zr _ _, zr _ _, zr _ _, zi _, zi _, zr _ _, zr _ _], zH, zH, zH, zH, zH, zH, zH, zH, zH, zH, zH, zH, zH, zH, zH, zH, zH, zH, zH, zH]) rfl ?_
  refine z_seq (S' := []) rfl ?_
  refine z_iload_n F dX1_read_7 rfl ?_
  refine z_if_lt F (tgt := 23) dX1_read_8 (by decide) (fun c_8 => ?_) (fun c_8 => ?_)
  · refine z_iconstB F false dX1_read_23 rfl ?_
    refine z_callS F (c_rgt false) 1 rfl (lw_S q538 q539 q109 q540) (by decide +kernel) ⟨Nat.le_of_ble_eq_true rfl, Nat.le_of_ble_eq_true rfl⟩ ⟨by omega, by omega⟩ [0] 22 ⟨rfl, rfl, rfl, ⟨Or.inl rfl, trivial⟩⟩ (fun h => nomatch h) (Nat.le_of_ble_eq_true rfl) ⟨⟨Or.inr (by first | exact ⟨rfl, pR_B _ (by decide)⟩ | exact ⟨rfl, uR_B (by decide) (by decide)⟩), Or.inr rfl, Or.inr trivial, Or.inr trivial, Or.inr trivial, Or.inr trivial, Or.inr trivial, Or.inr trivial, Or.inr trivial, Or.inr trivial, Or.inr trivial, Or.inr trivial, Or.inr trivial, Or.inr trivial, Or.inr trivial, Or.inr trivial, Or.inr trivial, Or.inr trivial, Or.inr trivial, Or.inr trivial, Or.inr trivial, Or.inr trivial, trivial⟩, rfl, rfl, rfl, Nat.le_of_ble_eq_true rfl⟩ rfl rfl dX1_read_24 (fun r_24 w_24 hp => ?_) (fun E_ w_ hx => by obtain ⟨rfl, hb, rfl⟩ := hx; exact zx_outH F E hT (by decide +kernel) (by omega) (by omega) (⟨rfl, trivial, rfl⟩))
    exact nomatch hp.2.1
  · refine z_iload_n F dX1_read_11 rfl ?_
    refine z_aload_n F dX1_read_12 rfl ?_
    refine z_get F zC1 (f := 5) rfl (Nat.le_of_ble_eq_true rfl) q319 rfl dX1_read_13 ?_
    refine z_icmp_gt F (tgt := 23) dX1_read_16 (by decide) (fun c_16 => ?_) (fun c_16 => ?_)
    · refine z_iconstB F false dX1_read_23 rfl ?_
      refine z_callS F (c_rgt false) 1 rfl (lw_S q538 q539 q109 q540) (by decide +kernel) ⟨Nat.le_of_ble_eq_true rfl, Nat.le_of_ble_eq_true rfl⟩ ⟨by omega, by omega⟩ [0] 22 ⟨rfl, rfl, rfl, ⟨Or.inl rfl, trivial⟩⟩ (fun h => nomatch h) (Nat.le_of_ble_eq_true rfl) ⟨⟨Or.inr (by first | exact ⟨rfl, pR_B _ (by decide)⟩ | exact ⟨rfl, uR_B (by decide) (by decide)⟩), Or.inr rfl, Or.inr trivial, Or.inr trivial, Or.inr trivial, Or.inr trivial, Or.inr trivial, Or.inr trivial, Or.inr trivial, Or.inr trivial, Or.inr trivial, Or.inr trivial, Or.inr trivial, Or.inr trivial, Or.inr trivial, Or.inr trivial, Or.inr trivial, Or.inr trivial, Or.inr trivial, Or.inr trivial, Or.inr trivial, Or.inr trivial, trivial⟩, rfl, rfl, rfl, Nat.le_of_ble_eq_true rfl⟩ rfl rfl dX1_read_24 (fun r_24 w_24 hp => ?_) (fun E_ w_ hx => by obtain ⟨rfl, hb, rfl⟩ := hx; exact zx_outH F E hT (by decide +kernel) (by omega) (by omega) (⟨rfl, trivial, rfl⟩))
      exact nomatch hp.2.1
    · exact ((nI_of c_8).elim fun k hk => hv k (Nat.lt_succ_of_le (Nat.le_of_not_lt fun w => c_16 (by rw [hk.2]; exact nI_lt w hk.1))) hk.2 : False).elim
end CA6
