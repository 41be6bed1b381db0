section ZE1
def zQc (D : va_G) (cA : Nat → ClassId) (ad0 : Nat → Nat → Nat) (w0 : List zE) (sz : Nat) (post : Option zV → List zE → Prop) : Array Value → State → Outcome → State → Prop := fun _ st oc t =>
  (∃ (r : Option zV) (w' : List zE) (ad' : Nat → Nat → Nat), oc = .returned (r.map (zcv ad')) ∧ post r w' ∧ zAg w0 ad0 ad' ∧ zRel D cA ad' w' t.heap ∧ zInj ad' w' (zfr ad0 w0 sz)) ∧ va_F (zfr ad0 w0 sz) st t
def zXC (D : va_G) (cA : Nat → ClassId) (ad0 : Nat → Nat → Nat) (w0 : List zE) (sz : Nat) (xpost : String → List zE → Prop) : String → Addr → State → State → Prop := fun E q st t =>
  (∃ (w' : List zE) (ad' : Nat → Nat → Nat), xpost E w' ∧ zAg w0 ad0 ad' ∧ zRel D cA ad' w' t.heap ∧ zInj ad' w' (zfr ad0 w0 sz) ∧ ad' w0.length 0 = q) ∧ va_F (zfr ad0 w0 sz) st t
def zPc (D : va_G) (cA : Nat → ClassId) (ad0 : Nat → Nat → Nat) (w0 : List zE) (sz : Nat) (l : Launch) : State → Prop := fun U =>
  U.heap.size = sz ∧ zRel D cA ad0 w0 U.heap ∧ zInj ad0 w0 (fun _ => True) ∧ va_K D zcl (zts cA) U ∧ zSt D (zfr ad0 w0 sz) l U
abbrev zRm (d mc ms : Nat) : Room := { frames := d, cells := mc, slots := ms, locals := 60 * d }
def zMet (l : Launch) (ws : List Cond) (y : MethodName) (d mc ms : Nat) (av : List zV) (w0 : List zE) (post : Option zV → List zE → Prop) (xpost : String → List zE → Prop) : Prop :=
  ∀ (D : va_G) (cA : Nat → ClassId) (ad0 : Nat → Nat → Nat) (sz : Nat), vx_Met l y ws (zRm d mc ms) (va_Pc (av.map (zcv ad0)) (zPc D cA ad0 w0 sz l)) (zQc D cA ad0 w0 sz post) (zXC D cA ad0 w0 sz xpost) mc ms (zfr ad0 w0 sz)
/-- THE CONTRACT: with the arguments av in the world w0, d frames deep, at most mc cells of ms slots: it returns (post) or throws (xpost) -/
def zCtr (y : MethodName) (cc : ByteArray) (nL : Nat) (ret : Option FieldType) (d mc ms : Nat) (av : List zV) (w0 : List zE) (post : Option zV → List zE → Prop) (xpost : String → List zE → Prop) : Prop :=
  ∀ l, zMet l (ws_ y cc nL ret) y d mc ms av w0 post xpost
def zNx : String → List zE → Prop := fun _ _ => False
def zEnd (X : zX) (post : Option zV → List zE → Prop) (xpost : String → List zE → Prop) (mc ms : Nat) : Prop :=
  X.2.1 = vx_MQ X.1.2.2.2.2.2.2.2.1 (zQc X.2.2.1 X.2.2.2.1 X.2.2.2.2.2.1 X.2.2.2.2.2.2 X.1.2.2.2.2.1.heap.size post) (zXC X.2.2.1 X.2.2.2.1 X.2.2.2.2.2.1 X.2.2.2.2.2.2 X.1.2.2.2.2.1.heap.size xpost) X.1.2.2.2.2.2.2.1 X.1.2.2.2.2.1 mc ms (zfr X.2.2.2.2.2.1 X.2.2.2.2.2.2 X.1.2.2.2.2.1.heap.size) ∧
  X.2.2.2.2.1 = zfr X.2.2.2.2.2.1 X.2.2.2.2.2.2 X.1.2.2.2.2.1.heap.size
def zNoH (X : zX) : Prop := ∀ x ∈ X.1.2.2.2.2.2.2.2.2.2.exceptionTable.toList, False
theorem z_start {y : MethodName} {cc : ByteArray} {nL : Nat} {ret : Option FieldType} {d mc ms : Nat} {av : List zV} {w0 : List zE} {post : Option zV → List zE → Prop} {xpost : String → List zE → Prop} (hy : plainName y.cls = true) (L0 : List (Option zV)) (hL0 : L0.length = nL) (hsl : ∀ ad, (lg_sl (av.map (zcv ad))).length ≤ nL) (hL : ∀ ad, zal ad L0 = lv_args 0 (av.map (zcv ad)))
    (body : ∀ X : zX, zFix X cc y.cls ret nL d mc ms w0.length (zisP w0) → zEnd X post xpost mc ms → zNoH X → X.1.2.2.2.2.2.2.2.2.1.name = y.name → Z X L0 [] w0 0 0 0) : zCtr y cc nL ret d mc ms av w0 post xpost := by
  intro l D cA ad0 sz
  refine vx_ofW (cc := cc) (maxL := nL) (ret := ret) hy rfl ?_
  intro p e s m args below meth c s₁ B hml ht hv
  obtain ⟨rfl, hsz, hR, hI, hK, hG⟩ := hv
  subst hsz
  have hts := atoms_spec (ws := ws_ y cc nL ret) B.pre
  have hts : ∀ w ∈ lw_all, w.before _ s = true := fun w h => hts w (List.mem_cons_of_mem _ h)
  have hl := lv_entry (av.map (zcv ad0)) (hsl ad0)
  have hb := body ((p, l, e, (headSpec (ws_ y cc nL ret) (zRm d mc ms)).room, s, m, (av.map (zcv ad0)).toArray, below, meth, c), vx_MQ below (zQc D cA ad0 w0 s.heap.size post) (zXC D cA ad0 w0 s.heap.size xpost) (av.map (zcv ad0)).toArray s mc ms (zfr ad0 w0 s.heap.size), D, cA, zfr ad0 w0 s.heap.size, ad0, w0)
    ⟨B.exec, B.bytes, findClass_of_methodNamed B.named, hts, hK, fun q h => Or.inr h, B.notSynchronized, B.returns, hml, rfl, hG, rfl, rfl⟩ ⟨rfl, rfl⟩ ht (name_of_methodNamed B.named B.method).1
    ad0 s.heap [] _ (fun _ _ _ _ => rfl) hR ⟨hI.1, fun p j c h => Or.inl ⟨p, j, c, h, rfl⟩⟩ va_S.rf (by unfold zLh; rw [hL0, hL]; exact hl)
  rw [lg_entry_eq]
  exact hb
section ZE2
variable {X : zX} {cc : ByteArray} {own : String} {ret : Option FieldType} {nL d mc ms nw : Nat} {np : Bool} {L : List (Option zV)} {S : List zV} {w : List zE} {k n pc : Nat} {post : Option zV → List zE → Prop} {xpost : String → List zE → Prop}
theorem zEnd.q (E : zEnd X post xpost mc ms) {ad : Nat → Nat → Nat} {H : Heap} {locs : List Loc} (h0 : zAg X.2.2.2.2.2.2 X.2.2.2.2.2.1 ad) (h1 : zRel X.2.2.1 X.2.2.2.1 ad w H) (h2 : zInj ad w X.2.2.2.2.1) (h3 : va_S X.2.2.2.2.1 X.1.2.2.2.2.1.heap H locs) {r : Option zV} (hp : post r w) {t : State} (ht : t.heap = H) {a : Array Value} :
    zQc X.2.2.1 X.2.2.2.1 X.2.2.2.2.2.1 X.2.2.2.2.2.2 X.1.2.2.2.2.1.heap.size post a X.1.2.2.2.2.1 (.returned (r.map (zcv ad))) t := by
  rw [E.2] at h2 h3
  exact ⟨⟨r, w, ad, rfl, hp, h0, by rw [ht]; exact h1, h2⟩, h3.F ht⟩
theorem z_iret (F : zFix X cc own ret nL d mc ms nw np) (E : zEnd X post xpost mc ms) {x : Int32} (hret : ret = some .int) (hd : decode cc pc = .ok (.ireturn, 1)) (hk : k ≤ mc) (hn : n ≤ ms) (hp : post (some (zi x)) w) : Z X L [zi x] w k n pc := fun ad H locs ls h0 h1 h2 h3 h4 => by
  unfold zWj
  rw [E.1]
  exact vx_ret (W.widen hk hn (W.iret (v := x) F.1 F.2.1 (F.2.2.2.2.2.2.2.1.trans hret) (fun t ht _ => E.q h0 h1 h2 h3 hp ht) (fun q hq => by have := h3.2.2 q hq; rwa [E.2] at this) hd F.2.2.2.2.2.2.1))
theorem z_zret (F : zFix X cc own ret nL d mc ms nw np) (E : zEnd X post xpost mc ms) {x : Int32} (hret : ret = some .boolean) (hx : narrow .boolean (.int x) = .int x) (hd : decode cc pc = .ok (.ireturn, 1)) (hk : k ≤ mc) (hn : n ≤ ms) (hp : post (some (zi x)) w) : Z X L [zi x] w k n pc := fun ad H locs ls h0 h1 h2 h3 h4 => by
  unfold zWj
  rw [E.1]
  exact vx_ret (W.widen hk hn (W.zret (v := x) F.1 F.2.1 (F.2.2.2.2.2.2.2.1.trans hret) hx (fun t ht _ => E.q h0 h1 h2 h3 hp ht) (fun q hq => by have := h3.2.2 q hq; rwa [E.2] at this) hd F.2.2.2.2.2.2.1))
theorem z_vret (F : zFix X cc own ret nL d mc ms nw np) (E : zEnd X post xpost mc ms) (hret : ret = none) (hd : decode cc pc = .ok (.return_, 1)) (hk : k ≤ mc) (hn : n ≤ ms) (hp : post none w) : Z X L [] w k n pc := fun ad H locs ls h0 h1 h2 h3 h4 => by
  unfold zWj
  rw [E.1]
  exact vx_ret (W.widen hk hn (W.vret F.1 F.2.1 (F.2.2.2.2.2.2.2.1.trans hret) (fun t ht _ => E.q (r := none) h0 h1 h2 h3 hp ht) (fun q hq => by have := h3.2.2 q hq; rwa [E.2] at this) hd F.2.2.2.2.2.2.1))
theorem z_lret (F : zFix X cc own ret nL d mc ms nw np) (E : zEnd X post xpost mc ms) {x : Int64} (hret : ret = some .long) (hd : decode cc pc = .ok (.lreturn, 1)) (hk : k ≤ mc) (hn : n ≤ ms) (hp : post (some (zl x)) w) : Z X L [zl x] w k n pc := fun ad H locs ls h0 h1 h2 h3 h4 => by
  unfold zWj
  rw [E.1]
  exact vx_ret (W.widen hk hn (W.lret (v := x) F.1 F.2.1 (F.2.2.2.2.2.2.2.1.trans hret) (fun t ht _ => E.q h0 h1 h2 h3 hp ht) (fun q hq => by have := h3.2.2 q hq; rwa [E.2] at this) hd F.2.2.2.2.2.2.1))
theorem z_aret (F : zFix X cc own ret nL d mc ms nw np) (E : zEnd X post xpost mc ms) {q : Nat × Nat} {rt : FieldType} (hret : ret = some rt) (hrt : (∃ n, rt = .object n) ∨ ∃ t, rt = .array t) (hd : decode cc pc = .ok (.areturn, 1)) (hk : k ≤ mc) (hn : n ≤ ms) (hp : post (some (.inr q)) w) : Z X L [.inr q] w k n pc := fun ad H locs ls h0 h1 h2 h3 h4 => by
  unfold zWj
  rw [E.1]
  exact vx_ret (W.widen hk hn (W.aret (v := zcv ad (.inr q)) F.1 F.2.1 (F.2.2.2.2.2.2.2.1.trans hret) hrt (Or.inr ⟨_, rfl⟩) (fun t ht _ => E.q (r := some (.inr q)) h0 h1 h2 h3 hp ht) (fun q hq => by have := h3.2.2 q hq; rwa [E.2] at this) hd F.2.2.2.2.2.2.1))
end ZE2
end ZE1
