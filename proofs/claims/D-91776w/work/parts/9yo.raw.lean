/-! raw references: constants at known addresses; contracts that tell them; calls by an interface -/
section C9yo
abbrev zq (a : Nat) : zV := Sum.inl (Value.ref a)
theorem lw_F {own : String} {idx : Nat} {C : String} {x y : MethodName} {b : ByteArray} {L : Nat} {r : Option FieldType} (h1 : Cond.methodLink own idx x ∈ lw_all) (h2 : Cond.instanceMethod y ∈ lw_all) (h3 : Cond.selects C x y ∈ lw_all) (h4 : Cond.initialized y.cls ∈ lw_all) (h5 : Cond.code y b L r ∈ lw_all) : GoodIn lw_all (va_wsF own idx C x y (ws_ y b L r)) := by
  refine lw_app ?_ (lw_meth h5)
  intro w hw
  simp only [List.mem_cons, List.not_mem_nil, or_false] at hw
  rcases hw with e | e | e | e
  · rw [e]; exact h1
  · rw [e]; exact h3
  · rw [e]; exact h2
  · rw [e]; exact h4
/-- a contract that tells D's constants -/
def zCtrD (D : va_G) (y : MethodName) (cc : ByteArray) (nL : Nat) (ret : Option FieldType) (d mc ms : Nat) (av : List zV) (w0 : List zE) (post : Option zV → List zE → Prop) (xpost : String → List zE → Prop) : Prop :=
  ∀ (l : Launch) (cA : Nat → ClassId) (ad0 : Nat → Nat → Nat) (sz : Nat), vx_Met l y (ws_ y cc nL ret) (zRm d mc ms) (va_Pc (av.map (zcv ad0)) (zPc D cA ad0 w0 sz l)) (zQc D cA ad0 w0 sz post) (zXC D cA ad0 w0 sz xpost) mc ms (zfr ad0 w0 sz)
theorem zCtr.atD {y : MethodName} {cc : ByteArray} {nL : Nat} {ret : Option FieldType} {d mc ms : Nat} {av : List zV} {w0 : List zE} {post : Option zV → List zE → Prop} {xpost : String → List zE → Prop} (h : zCtr y cc nL ret d mc ms av w0 post xpost) (D : va_G) : zCtrD D y cc nL ret d mc ms av w0 post xpost := fun l cA ad0 sz => h l D cA ad0 sz
theorem z_startD {D : va_G} {y : MethodName} {cc : ByteArray} {nL : Nat} {ret : Option FieldType} {d mc ms : Nat} {av : List zV} {w0 : List zE} {post : Option zV → List zE → Prop} {xpost : String → List zE → Prop} (hy : plainName y.cls = true) (L0 : List (Option zV)) (hL0 : L0.length = nL) (hsl : ∀ ad, (lg_sl (av.map (zcv ad))).length ≤ nL) (hL : ∀ ad, zal ad L0 = lv_args 0 (av.map (zcv ad)))
    (body : ∀ X : zX, X.2.2.1 = D → zFix X cc y.cls ret nL d mc ms w0.length (zisP w0) → zEnd X post xpost mc ms → zNoH X → X.1.2.2.2.2.2.2.2.2.1.name = y.name → Z X L0 [] w0 0 0 0) : zCtrD D y cc nL ret d mc ms av w0 post xpost := by
  intro l cA ad0 sz
  refine vx_ofW (cc := cc) (maxL := nL) (ret := ret) hy rfl ?_
  intro p e s m args below meth c s₁ B hml ht hv
  obtain ⟨rfl, hsz, hR, hI, hK, hG⟩ := hv
  subst hsz
  have hts := atoms_spec (ws := ws_ y cc nL ret) B.pre
  have hts : ∀ w ∈ lw_all, w.before _ s = true := fun w h => hts w (List.mem_cons_of_mem _ h)
  have hl := lv_entry (av.map (zcv ad0)) (hsl ad0)
  have hb := body ((p, l, e, (headSpec (ws_ y cc nL ret) (zRm d mc ms)).room, s, m, (av.map (zcv ad0)).toArray, below, meth, c), vx_MQ below (zQc D cA ad0 w0 s.heap.size post) (zXC D cA ad0 w0 s.heap.size xpost) (av.map (zcv ad0)).toArray s mc ms (zfr ad0 w0 s.heap.size), D, cA, zfr ad0 w0 s.heap.size, ad0, w0) rfl
    ⟨B.exec, B.bytes, findClass_of_methodNamed B.named, hts, hK, fun q h => Or.inr h, B.notSynchronized, B.returns, hml, rfl, hG, rfl, rfl⟩ ⟨rfl, rfl⟩ ht (name_of_methodNamed B.named B.method).1
    ad0 s.heap [] _ (fun _ _ _ _ => rfl) hR ⟨hI.1, fun p j c h => Or.inl ⟨p, j, c, h, rfl⟩⟩ va_S.rf (by unfold zLh; rw [hL0, hL]; exact hl)
  rw [lg_entry_eq]
  exact hb
section RW1
variable {X : zX} {cc : ByteArray} {own : String} {ret : Option FieldType} {nL d mc ms nw : Nat} {np : Bool} {L : List (Option zV)} {S : List zV} {w : List zE} {k n pc : Nat} {post : Option zV → List zE → Prop} {xpost : String → List zE → Prop}
variable {w0 : List zE} {σ : List Nat} {N : Nat} {y : MethodName} {cc' : ByteArray} {nL' d' mc' ms' idx : Nat} {ret' : Option FieldType} {as st0 : List zV}
theorem z_go5 (F : zFix X cc own ret nL d mc ms nw np) (hz : zcall σ N w w0) (hpl : zisP w0 = true → np = true) (hnw : nw ≤ N) (hkp : zkept σ N w0 w L S) {mc' ms' : Nat} {st0 : List zV} {ad : Nat → Nat → Nat} {H : Heap} {locs : List Loc} {ls : Array Slot} (h0 : zAg X.2.2.2.2.2.2 X.2.2.2.2.2.1 ad) (h1 : zRel X.2.2.1 X.2.2.2.1 ad w H) (h2 : zInj ad w X.2.2.2.2.1) (h3 : va_S X.2.2.2.2.1 X.1.2.2.2.2.1.heap H locs) (h4 : zLh ad ls L) {a : Array Value}
    (hr : vx_Run5 X.1.1 X.1.2.1 X.1.2.2.1 X.1.2.2.2.1 X.1.2.2.2.2.1 X.1.2.2.2.2.2.1 X.1.2.2.2.2.2.2.1 X.1.2.2.2.2.2.2.2.1 X.1.2.2.2.2.2.2.2.2.1 X.1.2.2.2.2.2.2.2.2.2 H locs k n mc' ms' (F0 X.1.2.2.2.2.2.1 pc ls (st0.map (zcv ad))) (S.map (zcv ad)) (zQc X.2.2.1 X.2.2.2.1 (zadc σ N ad) w0 H.size post a) (zXC X.2.2.1 X.2.2.2.1 (zadc σ N ad) w0 H.size xpost) (zfr (zadc σ N ad) w0 H.size))
    (kk : ∀ r w1, post r w1 → Z X L ((r.map (zrn (zsg σ N))).toList ++ S) (zbk σ N w0 w1 0 w) (k + mc') (n + ms') (pc + 5))
    (kx : ∀ E w1, xpost E w1 → ZX X L (zbk σ N w0 w1 0 w) (k + mc') (n + ms') pc E N) : zWj X H locs k n (F0 X.1.2.2.2.2.2.1 pc ls (st0.map (zcv ad))) := by
  have hA : ∀ q, H.size ≤ q → X.2.2.2.2.1 q := fun q hq => F.2.2.2.2.2.1 q (Nat.le_trans h3.1 hq)
  have hfree := hz.free h2 hA
  have agree : ∀ ad1, (∀ p j, p < N → (p = 0 → zisP w0 = false) → zadb σ N ad ad1 p j = ad p j) → zAg X.2.2.2.2.2.2 X.2.2.2.2.2.1 (zadb σ N ad ad1) := fun ad1 hh p j hp hlt => by
    have e1 : X.2.2.2.2.2.2.length = nw := F.2.2.2.2.2.2.2.2.2.2.2.1
    have e2 : zisP X.2.2.2.2.2.2 = np := F.2.2.2.2.2.2.2.2.2.2.2.2
    rw [hh p j (by omega) (fun hp0 => ?_)]
    · exact h0 p j hp hlt
    · have := hp hp0
      rw [e2] at this
      cases hq : zisP w0 with
      | false => rfl
      | true => rw [hpl hq] at this; cases this
  intro T hT Y
  rcases hr T hT Y with ⟨v, st₀, t, T', Lc, g0, Y', hL, e1, e2, ⟨⟨r, w1, ad1, hv, hp, hag, hR1, hI1⟩, hF⟩, st⟩ | ⟨q, st₀, t, T', Lc, E, ce, g0, Y', hL, e1, e2, ⟨⟨w1, ad1, hp, hag, hR1, hI1, hq⟩, hF⟩, hce, hcv, hcl, st⟩
  · obtain ⟨k1, k2, k3⟩ := vx_keep g0 e1 h3 (fun q _ h => hfree q h) hfree hL hF
    rw [← e1] at hR1
    obtain ⟨b1, b2, b3⟩ := hz.back hkp.1 hkp.2.2.2.1 hA h1 h2 hag hR1 hI1 k2
    have hK := kk r w1 hp (zadb σ N ad ad1) T'.heap (locs ++ Lc) ls (agree ad1 b1) b2 b3 k3 (zLh_B b1 hkp.2.1 h4)
    obtain ⟨t2, a1, a2⟩ := hK T' rfl Y'
    refine ⟨t2, ?_, a2⟩
    have e3 : List.map (zcv (zadb σ N ad ad1)) ((r.map (zrn (zsg σ N))).toList ++ S) = v.toList ++ S.map (zcv ad) := by
      cases hv
      have : S.map (zcv (zadb σ N ad ad1)) = S.map (zcv ad) := List.map_congr_left fun x hx => zcv_B b1 (List.all_eq_true.mp hkp.2.2.1 x hx)
      rw [List.map_append, this]
      congr 1
      cases r with
      | none => rfl
      | some x => simp [zcv_rn (zadb_sg hz.2.1 hz.lt)]
    rw [e3] at a1
    exact st t2 a1
  · obtain ⟨k1, k2, k3⟩ := vx_keep g0 e1 h3 (fun q _ h => hfree q h) hfree hL hF
    rw [← e1] at hR1 hce
    obtain ⟨b1, b2, b3⟩ := hz.back hkp.1 hkp.2.2.2.1 hA h1 h2 hag hR1 hI1 k2
    have hl : σ.length = w0.length := zsub_len hz.2.2.2
    have hq' : zadb σ N ad ad1 N 0 = q := by
      have := zadb_sg (ad := ad) (ad1 := ad1) hz.2.1 hz.lt w0.length 0
      rw [show zsg σ N w0.length = N by unfold zsg; rw [if_neg (by omega)]; omega] at this
      rw [this, hq]
    have hK := kx E w1 hp (zadb σ N ad ad1) T'.heap (locs ++ Lc) ls (S.map (zcv ad)) ce (agree ad1 b1) b2 b3 k3 (zLh_B b1 hkp.2.1 h4) (by rw [hq']; exact hce) hcv hcl
    rw [hq'] at hK
    obtain ⟨t2, a1, a2⟩ := hK T' rfl Y'
    exact ⟨t2, st.trans a1, a2⟩
theorem zFix.con (F : zFix X cc own ret nL d mc ms nw np) : zCon X.2.2.1 X.2.2.2.2.1 X.1.2.2.2.2.1 X.1.2.2.2.2.1.heap := F.2.2.2.2.2.2.2.2.2.2.1.2.2.2.2
theorem z_aloadQ_n (F : zFix X cc own ret nL d mc ms nw np) {j : Fin 4} {a : Nat} (hd : decode cc pc = .ok (.aload_n j, 1)) (hl : L[(j : Nat)]? = some (some (zq a))) (kk : Z X L (zq a :: S) w k n (pc + 1)) : Z X L S w k n pc := fun ad H locs ls h0 h1 h2 h3 h4 => lv_aload_n F.1 F.2.1 hd rfl (zLh_at h4 hl) (kk ad H locs ls h0 h1 h2 h3 h4)
theorem z_aloadQ (F : zFix X cc own ret nL d mc ms nw np) {j : Nat} {a : Nat} (hd : decode cc pc = .ok (.aload j, 2)) (hl : L[j]? = some (some (zq a))) (kk : Z X L (zq a :: S) w k n (pc + 2)) : Z X L S w k n pc := fun ad H locs ls h0 h1 h2 h3 h4 => lv_aload F.1 F.2.1 hd (zLh_at h4 hl) (kk ad H locs ls h0 h1 h2 h3 h4)
theorem z_aloadN_n (F : zFix X cc own ret nL d mc ms nw np) {j : Fin 4} (hd : decode cc pc = .ok (.aload_n j, 1)) (hl : L[(j : Nat)]? = some (some zn)) (kk : Z X L (zn :: S) w k n (pc + 1)) : Z X L S w k n pc := fun ad H locs ls h0 h1 h2 h3 h4 => lv_aload_nN F.1 F.2.1 hd rfl (zLh_at h4 hl) (kk ad H locs ls h0 h1 h2 h3 h4)
theorem z_astoreQ_n (F : zFix X cc own ret nL d mc ms nw np) {j : Fin 4} {a : Nat} (hd : decode cc pc = .ok (.astore_n j, 1)) (hj : (j : Nat) < L.length) (kk : Z X (zst L j (zq a)) S w k n (pc + 1)) : Z X L (zq a :: S) w k n pc := fun ad H locs ls h0 h1 h2 h3 h4 => lv_astore_n F.1 F.2.1 hd rfl h4 hj rfl (fun ls1 hl1 => kk ad H locs ls1 h0 h1 h2 h3 (zLh_st (v := zq a) hl1))
theorem z_aretQ (F : zFix X cc own ret nL d mc ms nw np) (E : zEnd X post xpost mc ms) {a : Nat} {rt : FieldType} (hret : ret = some rt) (hrt : (∃ n, rt = .object n) ∨ ∃ t, rt = .array t) (hd : decode cc pc = .ok (.areturn, 1)) (hk : k ≤ mc) (hn : n ≤ ms) (hp : post (some (zq a)) w) : Z X L [zq a] w k n pc := fun ad H locs ls h0 h1 h2 h3 h4 => by
  unfold zWj
  rw [E.1]
  exact vx_ret (W.widen hk hn (W.aret (v := zcv ad (zq a)) F.1 F.2.1 (F.2.2.2.2.2.2.2.1.trans hret) hrt (Or.inr ⟨_, rfl⟩) (fun t ht _ => E.q (r := some (zq a)) h0 h1 h2 h3 hp ht) (fun q hq => by have := h3.2.2 q hq; rwa [E.2] at this) hd F.2.2.2.2.2.2.1))
theorem z_gets (F : zFix X cc own ret nL d mc ms nw np) {C nm ds : String} {v : Value} (hZ : va_Z C nm ds v X.2.2.2.2.1 X.1.2.2.2.2.1 X.1.2.2.2.2.1.heap) (hlink : Cond.fieldLink own idx C nm ds ∈ lw_all) (hd : decode cc pc = .ok (.getstatic idx, 3)) (kk : Z X L (.inl v :: S) w k n (pc + 3)) : Z X L S w k n pc := fun ad H locs ls h0 h1 h2 h3 h4 =>
  va_gets F.1 F.2.1 hZ h3 F.2.2.1 (F.2.2.2.1 _ hlink) (fun _ h => h) hd (kk ad H locs ls h0 h1 h2 h3 h4)
/-- a static of which only 'a reference or null' is known -/
theorem z_getsq (F : zFix X cc own ret nL d mc ms nw np) {C nm ds : String} (hZ : va_Zq C nm ds X.2.2.2.2.1 X.1.2.2.2.2.1 X.1.2.2.2.2.1.heap) (hlink : Cond.fieldLink own idx C nm ds ∈ lw_all) (hd : decode cc pc = .ok (.getstatic idx, 3)) (kk : ∀ v : zV, (v = zn ∨ ∃ a, v = zq a) → Z X L (v :: S) w k n (pc + 3)) : Z X L S w k n pc := by
  rcases hZ with h | ⟨t, h⟩
  · exact z_gets F h hlink hd (kk zn (Or.inl rfl))
  · exact z_gets F h hlink hd (kk (zq t) (Or.inr ⟨t, rfl⟩))
theorem z_getQ (F : zFix X cc own ret nL d mc ms nw np) {o nm ds : String} {a : Nat} {v : Value} (hE : va_OF o nm ds v a X.2.2.2.2.1 X.1.2.2.2.2.1 X.1.2.2.2.2.1.heap) (hlink : Cond.fieldLink own idx o nm ds ∈ lw_all) (hd : decode cc pc = .ok (.getfield idx, 3)) (kk : Z X L (.inl v :: S) w k n (pc + 3)) : Z X L (zq a :: S) w k n pc := fun ad H locs ls h0 h1 h2 h3 h4 =>
  vk_getf F.1 F.2.1 hE h3 F.2.2.1 (F.2.2.2.1 _ hlink) (fun _ h => h) hd (kk ad H locs ls h0 h1 h2 h3 h4)
theorem z_alenQ (F : zFix X cc own ret nL d mc ms nw np) {ty : FieldType} {t M : Nat} {f : Nat → Value} (hT : va_T ty t M f X.2.2.2.2.1 X.1.2.2.2.2.1 X.1.2.2.2.2.1.heap) (hd : decode cc pc = .ok (.arraylength, 1)) (kk : Z X L (zi (nI M) :: S) w k n (pc + 1)) : Z X L (zq t :: S) w k n pc := fun ad H locs ls h0 h1 h2 h3 h4 =>
  va_tlen F.1 F.2.1 hT h3 rfl hd (kk ad H locs ls h0 h1 h2 h3 h4)
theorem z_baldQ (F : zFix X cc own ret nL d mc ms nw np) {t M i : Nat} {f : Nat → Value} {x : Int32} (hT : va_T .byte t M f X.2.2.2.2.1 X.1.2.2.2.2.1 X.1.2.2.2.2.1.heap) (hM : M < 2 ^ 31) (hi : i < M) (hv : f i = .int x) (hd : decode cc pc = .ok (.baload, 1)) (kk : Z X L (zi x :: S) w k n (pc + 1)) : Z X L (zi (nI i) :: zq t :: S) w k n pc := fun ad H locs ls h0 h1 h2 h3 h4 =>
  va_tb F.1 F.2.1 hT h3 (vp_in_nI hi hM) (by rw [zcl_n (by omega)]; exact hv) hd (kk ad H locs ls h0 h1 h2 h3 h4)
theorem z_aaldQ (F : zFix X cc own ret nL d mc ms nw np) {C : String} {t M i a : Nat} {f : Nat → Value} (hT : va_T (.object C) t M f X.2.2.2.2.1 X.1.2.2.2.2.1 X.1.2.2.2.2.1.heap) (hM : M < 2 ^ 31) (hi : i < M) (hv : f i = .ref a) (hd : decode cc pc = .ok (.aaload, 1)) (kk : Z X L (zq a :: S) w k n (pc + 1)) : Z X L (zi (nI i) :: zq t :: S) w k n pc := fun ad H locs ls h0 h1 h2 h3 h4 =>
  vb_tq F.1 F.2.1 hT h3 (vp_in_nI hi hM) (by rw [zcl_n (by omega)]; exact hv) hd (kk ad H locs ls h0 h1 h2 h3 h4)
/-- two references are one: both raw and the same -/
theorem z_acmp_eqQ (F : zFix X cc own ret nL d mc ms nw np) {a : Nat} {off : Int} {tgt : Nat} (hd : decode cc pc = .ok (.if_acmp .eq off, 3)) (ht : (pc : Int) + off = (tgt : Int)) (kk : Z X L S w k n tgt) : Z X L (zq a :: zq a :: S) w k n pc := fun ad H locs ls h0 h1 h2 h3 h4 =>
  lv_acmp_eq (rx := some a) (ry := some a) F.1 F.2.1 hd ht (fun _ => kk ad H locs ls h0 h1 h2 h3 h4) (fun z => absurd rfl z)
theorem z_ldcS (F : zFix X cc own ret nL d mc ms nw np) {tx : String} {a : Nat} (hR : vk_R own idx tx a X.1.2.2.2.2.1) (hd : decode cc pc = .ok (.ldc idx, 2)) (kk : Z X L (zq a :: S) w k n (pc + 2)) : Z X L S w k n pc := fun ad H locs ls h0 h1 h2 h3 h4 =>
  va_ldcS F.1 F.2.1 F.2.2.1 hR hd (kk ad H locs ls h0 h1 h2 h3 h4)
theorem z_recvQ {C : String} {a : Nat} (hO : va_O C a X.2.2.2.2.1 X.1.2.2.2.2.1 X.1.2.2.2.2.1.heap) {H : Heap} {locs : List Loc} (h3 : va_S X.2.2.2.2.1 X.1.2.2.2.2.1.heap H locs) : ∃ cell : Cell, H[a]? = some cell ∧ cell.vm.isStatics = false ∧ X.1.2.2.2.2.1.vm.findClass C = some cell.cls := by
  obtain ⟨cell, a1, a2, a3, -⟩ := hO.kept h3.2.1
  exact ⟨cell, a1, a2, a3⟩
theorem z_castQ (F : zFix X cc own ret nL d mc ms nw np) {C : String} {a : Nat} (hO : va_O C a X.2.2.2.2.1 X.1.2.2.2.2.1 X.1.2.2.2.2.1.heap) (hlink : Cond.classLink own idx C ∈ lw_all) (hd : decode cc pc = .ok (.checkcast idx, 3)) (kk : Z X L (zq a :: S) w k n (pc + 3)) : Z X L (zq a :: S) w k n pc := fun ad H locs ls h0 h1 h2 h3 h4 =>
  va_castE F.1 F.2.1 F.2.2.1 (F.2.2.2.1 _ hlink) (z_recvQ hO h3) hd (kk ad H locs ls h0 h1 h2 h3 h4)
theorem z_callVD (F : zFix X cc own ret nL d mc ms nw np) {p0 ci Nf : Nat} {fs : List zV} {T : u_T} {ty0 : Nat → FieldType} (C : zCtrD X.2.2.1 y cc' nL' ret' d' mc' ms' (zr p0 0 :: as) w0 post xpost) (na : Nat) (hna : as.length = na) (hG : GoodIn lw_all (wsV own idx y.cls y (ws_ y cc' nL' ret'))) (hy : y.cls = y.cls ∧ y.cls ≠ "java/lang/invoke/MethodHandle" ∧ y.cls ≠ "java/lang/invoke/VarHandle" ∧ (parseMethodDescriptor y.desc).map (fun d => d.parameters.length) = some na)
    (hrm : d' + 1 ≤ d ∧ nL' ≤ 41) (hks : k + mc' ≤ mc ∧ n + ms' ≤ ms) (σ : List Nat) (N : Nat) (hz : zcall σ N w w0) (hpl : zisP w0 = true → np = true) (hnw : nw ≤ N) (hkp : zkept σ N w0 w L S) (hnL : L.length = nL) (hC : zCl ci y.cls T Nf ty0) (hrc : zat w0 p0 0 = some (.inl (ci, fs))) (hst : st0 = (as.map (zrn (zsg σ N))).reverse ++ zr (zsg σ N p0) 0 :: S) (hd : decode cc pc = .ok (.invokevirtual idx, 3))
    (kk : ∀ r w1, post r w1 → Z X L ((r.map (zrn (zsg σ N))).toList ++ S) (zbk σ N w0 w1 0 w) (k + mc') (n + ms') (pc + 3))
    (kx : ∀ E w1, xpost E w1 → ZX X L (zbk σ N w0 w1 0 w) (k + mc') (n + ms') pc E N) : Z X L st0 w k n pc := fun ad H locs ls h0 h1 h2 h3 h4 => by
  refine z_go F hz hpl hnw hkp h0 h1 h2 h3 h4 (a := (Value.ref (zadc σ N ad p0 0) :: as.map (zcv (zadc σ N ad))).toArray) ?_ kk kx
  have hrel := hz.rel h1
  exact vx_runV (As := as.map (zcv (zadc σ N ad))) ⟨F.1, F.2.1, F.2.2.2.2.2.2.2.2.1, F.2.2.1, F.2.2.2.1⟩ (C X.1.2.1 X.2.2.2.1 (zadc σ N ad) H.size) (cwV na F.2.2.2.1 hG rfl rfl rfl hy ⟨by rw [F.2.2.2.2.2.2.2.2.2.1]; exact hrm.1, by rw [F.2.2.2.2.2.2.2.2.2.1]; show 8 + (nL' + 11) + 60 * d' ≤ 60 * d; omega⟩)
    ⟨zPc_blind, va_recv F.2.2.2.2.1 (zsing (hrel p0 0 _ hrc)) (q0 := 0) hC.1 rfl, fun U hU hW => z_pre F hz h1 h2 h3 (av := zr p0 0 :: as) U hU hW⟩ rfl (by simpa using hna) (h4.1.trans hnL) (by subst hst; show List.map _ _ = _; rw [List.map_append, zstk]; rfl) (lv_room (by rw [zsum]; exact hkp.2.2.2.2)) hd (by rw [F.2.2.2.2.2.2.2.2.2.1]; exact hks)
/-- the receiver is a constant -/
theorem z_callVR (F : zFix X cc own ret nL d mc ms nw np) {a : Nat} (C : zCtrD X.2.2.1 y cc' nL' ret' d' mc' ms' (zq a :: as) w0 post xpost) (na : Nat) (hna : as.length = na) (hG : GoodIn lw_all (wsV own idx y.cls y (ws_ y cc' nL' ret'))) (hy : y.cls = y.cls ∧ y.cls ≠ "java/lang/invoke/MethodHandle" ∧ y.cls ≠ "java/lang/invoke/VarHandle" ∧ (parseMethodDescriptor y.desc).map (fun d => d.parameters.length) = some na)
    (hrm : d' + 1 ≤ d ∧ nL' ≤ 41) (hks : k + mc' ≤ mc ∧ n + ms' ≤ ms) (σ : List Nat) (N : Nat) (hz : zcall σ N w w0) (hpl : zisP w0 = true → np = true) (hnw : nw ≤ N) (hkp : zkept σ N w0 w L S) (hnL : L.length = nL) (hO : va_O y.cls a X.2.2.2.2.1 X.1.2.2.2.2.1 X.1.2.2.2.2.1.heap) (hst : st0 = (as.map (zrn (zsg σ N))).reverse ++ zq a :: S) (hd : decode cc pc = .ok (.invokevirtual idx, 3))
    (kk : ∀ r w1, post r w1 → Z X L ((r.map (zrn (zsg σ N))).toList ++ S) (zbk σ N w0 w1 0 w) (k + mc') (n + ms') (pc + 3))
    (kx : ∀ E w1, xpost E w1 → ZX X L (zbk σ N w0 w1 0 w) (k + mc') (n + ms') pc E N) : Z X L st0 w k n pc := fun ad H locs ls h0 h1 h2 h3 h4 => by
  refine z_go F hz hpl hnw hkp h0 h1 h2 h3 h4 (a := (Value.ref a :: as.map (zcv (zadc σ N ad))).toArray) ?_ kk kx
  exact vx_runV (As := as.map (zcv (zadc σ N ad))) ⟨F.1, F.2.1, F.2.2.2.2.2.2.2.2.1, F.2.2.1, F.2.2.2.1⟩ (C X.1.2.1 X.2.2.2.1 (zadc σ N ad) H.size) (cwV na F.2.2.2.1 hG rfl rfl rfl hy ⟨by rw [F.2.2.2.2.2.2.2.2.2.1]; exact hrm.1, by rw [F.2.2.2.2.2.2.2.2.2.1]; show 8 + (nL' + 11) + 60 * d' ≤ 60 * d; omega⟩)
    ⟨zPc_blind, z_recvQ hO h3, fun U hU hW => z_pre F hz h1 h2 h3 (av := zq a :: as) U hU hW⟩ rfl (by simpa using hna) (h4.1.trans hnL) (by subst hst; show List.map _ _ = _; rw [List.map_append, zstk]; rfl) (lv_room (by rw [zsum]; exact hkp.2.2.2.2)) hd (by rw [F.2.2.2.2.2.2.2.2.2.1]; exact hks)
theorem z_callSD (F : zFix X cc own ret nL d mc ms nw np) (C : zCtrD X.2.2.1 y cc' nL' ret' d' mc' ms' as w0 post xpost) (na : Nat) (hna : as.length = na) (hG : GoodIn lw_all (va_wsS own idx y (ws_ y cc' nL' ret'))) (hy : y.cls ≠ "java/lang/invoke/MethodHandle" ∧ y.cls ≠ "java/lang/invoke/VarHandle" ∧ (parseMethodDescriptor y.desc).map (fun d => d.parameters.length) = some na)
    (hrm : d' + 1 ≤ d ∧ nL' ≤ 41) (hks : k + mc' ≤ mc ∧ n + ms' ≤ ms) (σ : List Nat) (N : Nat) (hz : zcall σ N w w0) (hpl : zisP w0 = true → np = true) (hnw : nw ≤ N) (hkp : zkept σ N w0 w L S) (hnL : L.length = nL) (hst : st0 = (as.map (zrn (zsg σ N))).reverse ++ S) (hd : decode cc pc = .ok (.invokestatic idx, 3))
    (kk : ∀ r w1, post r w1 → Z X L ((r.map (zrn (zsg σ N))).toList ++ S) (zbk σ N w0 w1 0 w) (k + mc') (n + ms') (pc + 3))
    (kx : ∀ E w1, xpost E w1 → ZX X L (zbk σ N w0 w1 0 w) (k + mc') (n + ms') pc E N) : Z X L st0 w k n pc := fun ad H locs ls h0 h1 h2 h3 h4 => by
  refine z_go F hz hpl hnw hkp h0 h1 h2 h3 h4 (a := (as.map (zcv (zadc σ N ad))).toArray) ?_ kk kx
  exact vx_runS (As := as.map (zcv (zadc σ N ad))) ⟨F.1, F.2.1, F.2.2.2.2.2.2.2.2.1, F.2.2.1, F.2.2.2.1⟩ (C X.1.2.1 X.2.2.2.1 (zadc σ N ad) H.size) (va_cwS na F.2.2.2.1 hG rfl rfl rfl hy ⟨by rw [F.2.2.2.2.2.2.2.2.2.1]; exact hrm.1, by rw [F.2.2.2.2.2.2.2.2.2.1]; show 8 + (nL' + 11) + 60 * d' ≤ 60 * d; omega⟩)
    ⟨zPc_blind, fun U hU hW => z_pre F hz h1 h2 h3 U hU hW⟩ rfl (by simpa using hna) (h4.1.trans hnL) (by subst hst; show List.map _ _ = _; rw [List.map_append, zstk]; rfl) (lv_room (by rw [zsum]; exact hkp.2.2.2.2)) hd (by rw [F.2.2.2.2.2.2.2.2.2.1]; exact hks)
theorem z_callID (F : zFix X cc own ret nL d mc ms nw np) {p0 : Nat} (C : zCtrD X.2.2.1 y cc' nL' none d' mc' ms' (zr p0 0 :: as) w0 post xpost) (na : Nat) (hna : as.length = na) (hG : GoodIn lw_all (ws_ y cc' nL' none)) (hini : Cond.initialized y.cls ∈ lw_all) (hlk : Cond.methodLink own idx y ∈ lw_all) (hin : Cond.instanceMethod y ∈ lw_all) (hy1 : y.name = "<init>") (hy : y.cls ≠ "java/lang/invoke/MethodHandle" ∧ y.cls ≠ "java/lang/invoke/VarHandle" ∧ (parseMethodDescriptor y.desc).map (fun d => d.parameters.length) = some na)
    (hrm : d' + 1 ≤ d ∧ nL' ≤ 41) (hks : k + mc' ≤ mc ∧ n + ms' ≤ ms) (σ : List Nat) (N : Nat) (hz : zcall σ N w w0) (hpl : zisP w0 = true → np = true) (hnw : nw ≤ N) (hkp : zkept σ N w0 w L S) (hnL : L.length = nL) (hst : st0 = (as.map (zrn (zsg σ N))).reverse ++ zr (zsg σ N p0) 0 :: S) (hd : decode cc pc = .ok (.invokespecial idx, 3))
    (kk : ∀ r w1, post r w1 → Z X L ((r.map (zrn (zsg σ N))).toList ++ S) (zbk σ N w0 w1 0 w) (k + mc') (n + ms') (pc + 3))
    (kx : ∀ E w1, xpost E w1 → ZX X L (zbk σ N w0 w1 0 w) (k + mc') (n + ms') pc E N) : Z X L st0 w k n pc := fun ad H locs ls h0 h1 h2 h3 h4 => by
  refine z_go F hz hpl hnw hkp h0 h1 h2 h3 h4 (a := (Value.ref (zadc σ N ad p0 0) :: as.map (zcv (zadc σ N ad))).toArray) ?_ kk kx
  exact vx_runI (As := as.map (zcv (zadc σ N ad))) ⟨F.1, F.2.1, F.2.2.2.2.2.2.2.2.1, F.2.2.1, F.2.2.2.1⟩ (C X.1.2.1 X.2.2.2.1 (zadc σ N ad) H.size) (cwI na F.2.2.2.1 hG rfl rfl rfl (F.2.2.2.1 _ hini) (F.2.2.2.1 _ hlk) (F.2.2.2.1 _ hin) hy1 hy ⟨by rw [F.2.2.2.2.2.2.2.2.2.1]; exact hrm.1, by rw [F.2.2.2.2.2.2.2.2.2.1]; show 8 + (nL' + 11) + 60 * d' ≤ 60 * d; omega⟩)
    ⟨zPc_blind, fun U hU hW => z_pre F hz h1 h2 h3 (av := zr p0 0 :: as) U hU hW⟩ rfl (by simpa using hna) (h4.1.trans hnL) (by subst hst; show List.map _ _ = _; rw [List.map_append, zstk]; rfl) (lv_room (by rw [zsum]; exact hkp.2.2.2.2)) hd (by rw [F.2.2.2.2.2.2.2.2.2.1]; exact hks)
/-- a call by the interface List of the ArrayList's own method -/
theorem z_callF (F : zFix X cc own ret nL d mc ms nw np) {p0 count : Nat} {fs : List zV} {x : MethodName} (C : zCtrD X.2.2.1 y cc' nL' ret' d' mc' ms' (zr p0 0 :: as) w0 post xpost) (na : Nat) (hna : as.length = na) (hG : GoodIn lw_all (va_wsF own idx "java/util/ArrayList" x y (ws_ y cc' nL' ret'))) (hF : va_Fw "java/util/ArrayList" x y X.1.2.2.2.2.1) (hy : x.cls ≠ "java/lang/invoke/MethodHandle" ∧ x.cls ≠ "java/lang/invoke/VarHandle" ∧ (parseMethodDescriptor x.desc).map (fun d => d.parameters.length) = some na)
    (hrm : d' + 1 ≤ d ∧ nL' ≤ 41) (hks : k + mc' ≤ mc ∧ n + ms' ≤ ms) (σ : List Nat) (N : Nat) (hz : zcall σ N w w0) (hpl : zisP w0 = true → np = true) (hnw : nw ≤ N) (hkp : zkept σ N w0 w L S) (hnL : L.length = nL) (hrc : zat w0 p0 0 = some (.inl (15, fs))) (hst : st0 = (as.map (zrn (zsg σ N))).reverse ++ zr (zsg σ N p0) 0 :: S) (hd : decode cc pc = .ok (.invokeinterface idx count, 5))
    (kk : ∀ r w1, post r w1 → Z X L ((r.map (zrn (zsg σ N))).toList ++ S) (zbk σ N w0 w1 0 w) (k + mc') (n + ms') (pc + 5))
    (kx : ∀ E w1, xpost E w1 → ZX X L (zbk σ N w0 w1 0 w) (k + mc') (n + ms') pc E N) : Z X L st0 w k n pc := fun ad H locs ls h0 h1 h2 h3 h4 => by
  refine z_go5 F hz hpl hnw hkp h0 h1 h2 h3 h4 (a := (Value.ref (zadc σ N ad p0 0) :: as.map (zcv (zadc σ N ad))).toArray) ?_ kk kx
  have hrel := hz.rel h1
  exact vx_runF (As := as.map (zcv (zadc σ N ad))) (F.2.2.2.2.1.1 15 _ rfl).2 ⟨F.1, F.2.1, F.2.2.2.2.2.2.2.2.1, F.2.2.1, F.2.2.2.1⟩ (C X.1.2.1 X.2.2.2.1 (zadc σ N ad) H.size) (va_cwF na F.2.2.2.1 hG rfl rfl rfl hF hy ⟨by rw [F.2.2.2.2.2.2.2.2.2.1]; exact hrm.1, by rw [F.2.2.2.2.2.2.2.2.2.1]; show 8 + (nL' + 11) + 60 * d' ≤ 60 * d; omega⟩)
    ⟨zPc_blind, va_recv F.2.2.2.2.1 (zsing (hrel p0 0 _ hrc)) (q0 := 0) (ci := 15) rfl rfl, fun U hU hW => z_pre F hz h1 h2 h3 (av := zr p0 0 :: as) U hU hW⟩ rfl (by simpa using hna) (h4.1.trans hnL) (by subst hst; show List.map _ _ = _; rw [List.map_append, zstk]; rfl) (lv_room (by rw [zsum]; exact hkp.2.2.2.2)) hd (by rw [F.2.2.2.2.2.2.2.2.2.1]; exact hks)
/-- a field by another class's name -/
theorem z_getS (F : zFix X cc own ret nL d mc ms nw np) {p ci M f : Nat} {fs : List zV} {C rf : String} {T : u_T} {ty0 : Nat → FieldType} {v : zV} (hC : zCl ci C T M ty0) (hw : w[p]? = some (zO ci fs)) (hf : f < M) (hlink : Cond.fieldLink own idx rf (T f).2.1 (T f).2.2.1 ∈ lw_all) (hsm : Cond.sameField rf (T f).1 (T f).2.1 (T f).2.2.1 ∈ lw_all) (hv : fs[f]? = some v) (hd : decode cc pc = .ok (.getfield idx, 3))
    (kk : Z X L (v :: S) w k n (pc + 3)) : Z X L (zr p 0 :: S) w k n pc := fun ad H locs ls h0 h1 h2 h3 h4 =>
  va_get (v := zcv ad v) (fs := fs.map (zcv ad)) F.1 F.2.1 F.2.2.2.1 hC.2.1 F.2.2.1 F.2.2.2.2.1 (zsing (h1 p 0 (.inl (ci, fs)) (by simp [zat, hw, zcell]))) 0 rfl hC.1 f hf (F.2.2.2.1 _ hlink) (fun x h => u_same (F.2.2.2.1 _ hsm) x h) (by simp [hv]) hd (kk ad H locs ls h0 h1 h2 h3 h4)
theorem z_putS (F : zFix X cc own ret nL d mc ms nw np) {p ci M f : Nat} {fs : List zV} {C rf : String} {T : u_T} {ty0 : Nat → FieldType} {v : zV} (hC : zCl ci C T M ty0) (hw : w[p]? = some (zO ci fs)) (hf : f < M) (hlink : Cond.fieldLink own idx rf (T f).2.1 (T f).2.2.1 ∈ lw_all) (hsm : Cond.sameField rf (T f).1 (T f).2.1 (T f).2.2.1 ∈ lw_all) (hfin : (T f).2.2.2 = false) (hn : ∀ ad, narrow (ty0 f) (zcv ad v) = zcv ad v) (hfit : ∀ ad, fits (ty0 f) (zcv ad v) = true) (hl : f < fs.length) (hd : decode cc pc = .ok (.putfield idx, 3))
    (kk : Z X L S (w.set p (zO ci (fs.set f v))) k n (pc + 3)) : Z X L (v :: zr p 0 :: S) w k n pc := fun ad H locs ls h0 h1 h2 h3 h4 => by
  have hz : zat w p 0 = some (.inl (ci, fs)) := by simp [zat, hw, zcell]
  have hu : zUpd w p 0 (.inl (ci, fs.set f v)) (w.set p (zO ci (fs.set f v))) := zUpd_O hw
  exact vy_put (v := zcv ad v) (fs := fs.map (zcv ad)) F.1 F.2.1 F.2.2.2.1 hC.2.1 ty0 hC.2.2.1 hC.2.2.2 F.2.2.1 F.2.2.2.2.1 (h2.2 p 0 _ hz) h3 (h1 p 0 _ hz) hC.1 f hf (F.2.2.2.1 _ hlink) (fun x h => u_same (F.2.2.2.1 _ hsm) x h) hfin (hC.2.2.1 f hf) (hn ad) (hfit ad) (by simpa using hl) hd
    (fun H1 locs1 e1 e2 e3 => kk ad H1 locs1 ls h0 (hu.rel h2 h1 (by simpa [zcc, List.map_set] using e1) e2) (hu.inj h2) e3 h4)
/-- a constant is put into an array of Objects -/
theorem z_aastQ (F : zFix X cc own ret nL d mc ms nw np) {p M i a : Nat} {f : Nat → zV} {C : String} (hw : w[p]? = some (zAr 8 M f)) (hO : va_O C a X.2.2.2.2.1 X.1.2.2.2.2.1 X.1.2.2.2.2.1.heap) (hca : Cond.castable C "java/lang/Object" ∈ lw_tbl) (hM : M < 2 ^ 31) (hi : i < M) (hd : decode cc pc = .ok (.aastore, 1)) (kk : Z X L S (w.set p (zAr 8 M (zput f i (zq a)))) k n (pc + 1)) : Z X L (zq a :: zi (nI i) :: zr p 0 :: S) w k n pc := fun ad H locs ls h0 h1 h2 h3 h4 => by
  have hz : zat w p 0 = some (.inr (8, M, .inr (.inr f))) := by simp [zat, hw, zcell]
  have ha := h1 p 0 _ hz
  have hK := F.2.2.2.2.1
  have hin : vp_in (nI i) M := vp_in_nI hi hM
  have hlt : (nI i).toNatClampNeg < M := by rw [zcl_n (by omega)]; exact hi
  have hi0 : ¬ nI i < 0 := fun z => hin (Or.inl z)
  obtain ⟨cellV, g1, g3, g2⟩ := z_recvQ hO h3
  obtain ⟨kA, comp, k1, k2, k3, -⟩ := (hK.2 8 _ rfl).2
  obtain ⟨kE, hkE, -⟩ := Vm.findClass_spec k3
  obtain ⟨kC, hkC, -⟩ := Vm.findClass_spec g2
  refine W.aast F.1 F.2.1 ha (fun q h => by cases h) (fun h => by cases h) k1 k2 rfl hkE ⟨hi0, by show _ < (arrV _ _ _).slots.size; rw [arrV_size]; exact hlt⟩ g1 (fun q h => by rw [h] at g3; cases g3) hkC (vb_asgC (F.2.2.2.2.2.2.2.2.2.2.1.2.1 _ (zNest_of hca rfl)) _ _ k3 g2) rfl rfl hd fun H1 e z oq => ?_
  have hu : zUpd w p 0 (.inr (8, M, .inr (.inr (zput f i (zq a))))) (w.set p (zAr 8 M (zput f i (zq a)))) := zUpd_A hw
  refine kk ad H1 _ ls h0 (hu.rel h2 h1 ?_ oq) (hu.inj h2) (h3.put z oq (h2.2 p 0 _ hz)) h4
  show H1[ad p 0]? = some (vp_cell _ _)
  rw [e]
  show some ((arrV (X.2.2.2.1 8) M (fun i => va_rf (zop (zcv ad (f i))))).setSlot (nI i).toNatClampNeg (.ref a)) = some (arrV (X.2.2.2.1 8) M (fun j => va_rf (zop (zcv ad (zput f i (zq a) j)))))
  rw [arrV_store]
  congr 2
  funext j
  rw [zcl_n (by omega)]
  by_cases hj : j = i
  · subst hj
    simp [updV, zput, va_rf, zop, zcv]
  · simp [updV, zput, hj]
theorem z_aastZ (F : zFix X cc own ret nL d mc ms nw np) {p M i : Nat} {f : Nat → zV} (hw : w[p]? = some (zAr 8 M f)) (hM : M < 2 ^ 31) (hi : i < M) (hd : decode cc pc = .ok (.aastore, 1)) (kk : Z X L S (w.set p (zAr 8 M (zput f i zn))) k n (pc + 1)) : Z X L (zn :: zi (nI i) :: zr p 0 :: S) w k n pc := fun ad H locs ls h0 h1 h2 h3 h4 => by
  have hz : zat w p 0 = some (.inr (8, M, .inr (.inr f))) := by simp [zat, hw, zcell]
  have ha := h1 p 0 _ hz
  have hK := F.2.2.2.2.1
  have hin : vp_in (nI i) M := vp_in_nI hi hM
  refine va_WaastN (C := "java/lang/Object") F.1 F.2.1 ha ((hK.2 8 _ rfl).1 M (fun j => va_rf (zop (zcv ad (f j))))) (fun h => by cases h) (by show ¬ (nI i < 0 ∨ (arrV _ _ _).slots.size ≤ _); rw [arrV_size]; exact hin) rfl rfl hd fun H1 e z oq => ?_
  have hu : zUpd w p 0 (.inr (8, M, .inr (.inr (zput f i zn)))) (w.set p (zAr 8 M (zput f i zn))) := zUpd_A hw
  refine kk ad H1 _ ls h0 (hu.rel h2 h1 ?_ oq) (hu.inj h2) (h3.put z oq (h2.2 p 0 _ hz)) h4
  show H1[ad p 0]? = some (vp_cell _ _)
  rw [e]
  show some ((arrV (X.2.2.2.1 8) M (fun i => va_rf (zop (zcv ad (f i))))).setSlot (nI i).toNatClampNeg .null) = some (arrV (X.2.2.2.1 8) M (fun j => va_rf (zop (zcv ad (zput f i zn j)))))
  rw [arrV_store]
  congr 2
  funext j
  rw [zcl_n (by omega)]
  by_cases hj : j = i
  · subst hj
    simp [updV, zput, va_rf, zop, zcv]
  · simp [updV, zput, hj]
/-- an array of references is made -/
theorem z_newq (F : zFix X cc own ret nL d mc ms nw np) {C : String} {t M : Nat} {i : Int32} (N : Nat) (ht : ∀ cA : Nat → ClassId, (zts cA)[t]? = some (cA t, .object C)) (hclink : Cond.classLink own idx C ∈ lw_all) (hover : Cond.arrayOver (.object C) ∈ lw_tbl) (hi : ¬ i < 0) (hM : i.toNatClampNeg = M) (hb : M * 4 ≤ 536870912) (hN : w.length = N) (hnw : nw ≤ N) (hwf : zwf N w) (hL : L.all (zoN N) = true) (hS : S.all (zokN N) = true) (hks : k + 1 ≤ mc ∧ n + M ≤ ms) (hd : decode cc pc = .ok (.anewarray idx, 3))
    (kk : Z X L (zr N 0 :: S) (w ++ [zAr t M (fun _ => zn)]) (k + 1) (n + M) (pc + 3)) : Z X L (zi i :: S) w k n pc := fun ad H locs ls h0 h1 h2 h3 h4 => by
  subst hN
  subst hM
  refine W.anew F.1 F.2.1 F.2.2.1 (F.2.2.2.1 _ hclink) (z_word F hover (by rw [show zNok (.arrayOver (.object C)) = true from rfl, Bool.or_true])) rfl hd rfl hi hb (by rw [F.2.2.2.2.2.2.2.2.2.1]; exact hks.1) (by rw [F.2.2.2.2.2.2.2.2.2.1]; exact hks.2) fun cA kA comp f1 f2 f3 f4 => ?_
  have hcA : cA = X.2.2.2.1 t := by
    obtain ⟨_, _, _, _, _, q⟩ := (F.2.2.2.2.1.2 t _ (ht _)).2
    exact Option.some.inj (f1.symm.trans q)
  subst hcA
  generalize hH1 : H.push ({ cls := X.2.2.2.1 t, slots := Array.replicate i.toNatClampNeg .null, vm := .none } : Cell) = H1
  have z1 : H1.size = H.size + 1 := by rw [← hH1, Array.size_push]
  have e1 : H1[H.size]? = some (arrV (X.2.2.2.1 t) i.toNatClampNeg (fun _ => .null)) := by rw [← hH1, Array.getElem?_push_size, ← arrV_new]
  have o1 : ∀ q : Nat, q < H.size → H1[q]? = H[q]? := fun q hq => by rw [← hH1, Array.getElem?_push, if_neg (Nat.ne_of_lt hq)]
  have he : ∀ j c', zcell w.length (zAr t i.toNatClampNeg (fun _ => zn)) j = some c' → j = 0 ∧ c' = .inr (t, i.toNatClampNeg, .inr (.inr (fun _ => zn))) := fun j c' h => by
    simp only [zcell] at h
    split at h
    · cases h; exact ⟨by assumption, rfl⟩
    · cases h
  have e9 : va_at X.2.2.1 zcl (H.size, zcc X.2.2.2.1 (zad1 ad w.length H.size) (.inr (t, i.toNatClampNeg, .inr (.inr (fun _ => zn))))) H1 := by
    rw [zcc_K]
    show H1[H.size]? = some (vp_cell _ _)
    exact e1
  have hh := kk (zad1 ad w.length H.size) H1 locs ls (h0.new (by rw [F.2.2.2.2.2.2.2.2.2.2.2.1]; exact hnw)) (h1.new hwf he e9 o1) (zInj.new h1 h2 he (F.2.2.2.2.2.1 _ h3.1)) ⟨Nat.le_trans h3.1 (by omega), fun x g1 g2 => (o1 x (Nat.lt_of_lt_of_le g1 h3.1)).trans (h3.2.1 x g1 g2), h3.2.2⟩ (by unfold zLh; rw [zal_eq zad1_lo hL]; exact h4)
  rw [List.map_cons, zS_eq zad1_lo hS] at hh
  have hz : zcv (zad1 ad w.length H.size) (zr w.length 0) = .ref H.size := by simp [zcv, zad1]
  rw [hz] at hh
  exact hh
theorem z_aaldR (F : zFix X cc own ret nL d mc ms nw np) {p M i : Nat} {f : Nat → zV} {v : zV} (hw : w[p]? = some (zAr 8 M f)) (hM : M < 2 ^ 31) (hi : i < M) (hv : f i = v) (hr : (∃ q, v = .inr q) ∨ (∃ a, v = .inl (.ref a)) ∨ v = zn) (hd : decode cc pc = .ok (.aaload, 1)) (kk : Z X L (v :: S) w k n (pc + 1)) : Z X L (zi (nI i) :: zr p 0 :: S) w k n pc := by
  subst hv
  refine z_aaldC F (t := 8) (N := M) (f := f) (ty := .object "java/lang/Object") (fun _ => rfl) rfl (by simp [zat, hw, zcell]) (vp_in_nI hi hM) ?_ hd ?_
  · rw [zcl_n (by omega)]; exact hr
  · rw [zcl_n (by omega)]; exact kk
theorem z_i2c (F : zFix X cc own ret nL d mc ms nw np) {x : Int32} (hd : decode cc pc = .ok (.i2c, 1)) (kk : Z X L (zi (x.toUInt32 % 65536).toInt32 :: S) w k n (pc + 1)) : Z X L (zi x :: S) w k n pc := fun ad H locs ls h0 h1 h2 h3 h4 => lv_i2c F.1 F.2.1 hd rfl (kk ad H locs ls h0 h1 h2 h3 h4)
theorem zF0 (F : zFix X cc own ret nL d mc ms nw np) : va_Fw "java/util/ArrayList" ⟨"java/util/List", "clea\x72", "()V"⟩ ⟨"java/util/ArrayList", "clea\x72", "()V"⟩ X.1.2.2.2.2.1 := F.con.2.2.2.2.2.2.2.2.2.2.1 ("clea\x72", "()V") (by decide)
theorem zF1 (F : zFix X cc own ret nL d mc ms nw np) : va_Fw "java/util/ArrayList" ⟨"java/util/List", "add", "(Ljava/lang/Object;)Z"⟩ ⟨"java/util/ArrayList", "add", "(Ljava/lang/Object;)Z"⟩ X.1.2.2.2.2.1 := F.con.2.2.2.2.2.2.2.2.2.2.1 ("add", "(Ljava/lang/Object;)Z") (by decide)
theorem zF2 (F : zFix X cc own ret nL d mc ms nw np) : va_Fw "java/util/ArrayList" ⟨"java/util/List", "get", "(I)Ljava/lang/Object;"⟩ ⟨"java/util/ArrayList", "get", "(I)Ljava/lang/Object;"⟩ X.1.2.2.2.2.1 := F.con.2.2.2.2.2.2.2.2.2.2.1 ("get", "(I)Ljava/lang/Object;") (by decide)
theorem zF3 (F : zFix X cc own ret nL d mc ms nw np) : va_Fw "java/util/ArrayList" ⟨"java/util/List", "size", "()I"⟩ ⟨"java/util/ArrayList", "size", "()I"⟩ X.1.2.2.2.2.1 := F.con.2.2.2.2.2.2.2.2.2.2.1 ("size", "()I") (by decide)
end RW1
end C9yo
