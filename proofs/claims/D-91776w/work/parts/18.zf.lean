section ZF1
theorem zSt_calling {D : va_G} {A : Nat → Prop} {l : Launch} {U : State} {g : JFrame} {mk : MethodId} {a : Array Value} (h : zSt D A l U) : zSt D A l (U.calling g mk a) := by
  obtain ⟨h1, h2, h3, h4, h5⟩ := h
  refine ⟨h1, fun w hw => ?_, (h3.moved (U := U.calling g mk a) (Vm.Alike.refl U.vm)), (h4.moved (U := U.calling g mk a) (Vm.Alike.refl U.vm)), h5.calling (E := U.calling g mk a) rfl rfl (Vm.Alike.refl U.vm)⟩
  have h9 := (List.mem_filter.mp hw).2
  have hv : U.vm = (U.calling g mk a).vm := rfl
  cases w <;> first | exact va_Nw.same rfl hv (h2 _ hw) | cases h9 | (rename_i t; cases t <;> first | exact over_moved (a := #[]) (a' := #[]) (u := U) (E := U.calling g mk a) (Vm.Alike.refl U.vm) (h2 _ hw) | exact va_AO.moved (u := U) (U := U.calling g mk a) (Vm.Alike.refl U.vm) (h2 _ hw) | cases h9)
theorem zPc_blind {D : va_G} {cA : Nat → ClassId} {ad0 : Nat → Nat → Nat} {w0 : List zE} {sz : Nat} {l : Launch} {av : List Value} : FrameBlind (va_Pc av (zPc D cA ad0 w0 sz l)) := by
  rintro a U g mk ⟨h0, h1, h2, h3, h4, h5⟩
  exact ⟨h0, h1, h2, h3, va_K.moved (u := U) (U := U.calling g mk a) (Vm.Alike.refl U.vm) h4, zSt_calling h5⟩
/-- thrown: the exception of class E lies at the place pe -/
def ZX (X : zX) (L : List (Option zV)) (w : List zE) (k n pc : Nat) (E : String) (pe : Nat) : Prop :=
  ∀ (ad : Nat → Nat → Nat) (H : Heap) (locs : List Loc) (ls : Array Slot) (st : List Value) (ce : Cell), zAg X.2.2.2.2.2.2 X.2.2.2.2.2.1 ad → zRel X.2.2.1 X.2.2.2.1 ad w H → zInj ad w X.2.2.2.2.1 → va_S X.2.2.2.2.1 X.1.2.2.2.2.1.heap H locs → zLh ad ls L →
    H[ad pe 0]? = some ce → ce.vm = .none → X.1.2.2.2.2.1.vm.findClass E = some ce.cls →
    vx_W X.1.1 X.1.2.1 X.1.2.2.1 X.1.2.2.2.1 X.1.2.2.2.2.1 X.1.2.2.2.2.2.1 X.1.2.2.2.2.2.2.1 X.1.2.2.2.2.2.2.2.1 X.1.2.2.2.2.2.2.2.2.1 X.1.2.2.2.2.2.2.2.2.2 H locs k n X.2.1 (F0 X.1.2.2.2.2.2.1 pc ls st) (ad pe 0)
section ZF2
variable {X : zX} {cc : ByteArray} {own : String} {ret : Option FieldType} {nL d mc ms nw : Nat} {np : Bool} {L : List (Option zV)} {S : List zV} {w : List zE} {k n pc : Nat}
variable {post : Option zV → List zE → Prop} {xpost : String → List zE → Prop} {w0 : List zE} {σ : List Nat} {N : Nat}
/-- what a call leaves as it was -/
def zkept (σ : List Nat) (N : Nat) (w0 w : List zE) (L : List (Option zV)) (S : List zV) : Prop := zkw σ w0 (zisP w0) N 0 w ∧ L.all (zoB (zisP w0) N) = true ∧ S.all (zokB (zisP w0) N) = true ∧ σ[0]? = some 0 ∧ (S.map zcat).sum ≤ 8
theorem zLh_B {P : Bool} {ad ad' : Nat → Nat → Nat} (h : ∀ p j, p < N → (p = 0 → P = false) → ad' p j = ad p j) (hL : L.all (zoB P N) = true) {ls : Array Slot} (hl : zLh ad ls L) : zLh ad' ls L := by
  have : zal ad' L = zal ad L := by
    unfold zal
    refine zfm fun q hq => ?_
    obtain ⟨o, i⟩ := q
    have := List.all_eq_true.mp hL o (List.mem_of_getElem? (List.mem_zipIdx_iff_getElem?.mp hq))
    cases o with
    | none => rfl
    | some v => simp [zcv_B h (v := v) this]
  unfold zLh
  rw [this]
  exact hl
/-- behind the run of a callee -/
theorem z_go (F : zFix X cc own ret nL d mc ms nw np) (hz : zcall σ N w w0) (hpl : zisP w0 = true → np = true) (hnw : nw ≤ N) (hkp : zkept σ N w0 w L S) {mc' ms' : Nat} {st0 : List zV} {ad : Nat → Nat → Nat} {H : Heap} {locs : List Loc} {ls : Array Slot} (h0 : zAg X.2.2.2.2.2.2 X.2.2.2.2.2.1 ad) (h1 : zRel X.2.2.1 X.2.2.2.1 ad w H) (h2 : zInj ad w X.2.2.2.2.1) (h3 : va_S X.2.2.2.2.1 X.1.2.2.2.2.1.heap H locs) (h4 : zLh ad ls L) {a : Array Value}
    (hr : vx_Run X.1.1 X.1.2.1 X.1.2.2.1 X.1.2.2.2.1 X.1.2.2.2.2.1 X.1.2.2.2.2.2.1 X.1.2.2.2.2.2.2.1 X.1.2.2.2.2.2.2.2.1 X.1.2.2.2.2.2.2.2.2.1 X.1.2.2.2.2.2.2.2.2.2 H locs k n mc' ms' (F0 X.1.2.2.2.2.2.1 pc ls (st0.map (zcv ad))) (S.map (zcv ad)) (zQc X.2.2.1 X.2.2.2.1 (zadc σ N ad) w0 H.size post a) (zXC X.2.2.1 X.2.2.2.1 (zadc σ N ad) w0 H.size xpost) (zfr (zadc σ N ad) w0 H.size))
    (kk : ∀ r w1, post r w1 → Z X L ((r.map (zrn (zsg σ N))).toList ++ S) (zbk σ N w0 w1 0 w) (k + mc') (n + ms') (pc + 3))
    (kx : ∀ E w1, xpost E w1 → ZX X L (zbk σ N w0 w1 0 w) (k + mc') (n + ms') pc E N) : zWj X H locs k n (F0 X.1.2.2.2.2.2.1 pc ls (st0.map (zcv ad))) := by
  have hA : ∀ q, H.size ≤ q → X.2.2.2.2.1 q := fun q hq => F.2.2.2.2.2.1 q (Nat.le_trans h3.1 hq)
  have hfree := hz.free h2 hA
  have agree : ∀ ad1, (∀ p j, p < N → (p = 0 → zisP w0 = false) → zadb σ N ad ad1 p j = ad p j) → zAg X.2.2.2.2.2.2 X.2.2.2.2.2.1 (zadb σ N ad ad1) := fun ad1 hh p j hp hlt => by
    have e1 : X.2.2.2.2.2.2.length = nw := F.2.2.2.2.2.2.2.2.2.2.2.1
    have e2 : zisP X.2.2.2.2.2.2 = np := F.2.2.2.2.2.2.2.2.2.2.2.2
    rw [hh p j (by omega) (fun hp0 => ?_)]
    · exact h0 p j hp hlt
    · have := hp hp0
      rw [e2] at this
      cases hq : zisP w0 with
      | false => rfl
      | true => rw [hpl hq] at this; cases this
  intro T hT Y
  rcases hr T hT Y with ⟨v, st₀, t, T', Lc, g0, Y', hL, e1, e2, ⟨⟨r, w1, ad1, hv, hp, hag, hR1, hI1⟩, hF⟩, st⟩ | ⟨q, st₀, t, T', Lc, E, ce, g0, Y', hL, e1, e2, ⟨⟨w1, ad1, hp, hag, hR1, hI1, hq⟩, hF⟩, hce, hcv, hcl, st⟩
  · obtain ⟨k1, k2, k3⟩ := vx_keep g0 e1 h3 (fun q _ h => hfree q h) hfree hL hF
    rw [← e1] at hR1
    obtain ⟨b1, b2, b3⟩ := hz.back hkp.1 hkp.2.2.2.1 hA h1 h2 hag hR1 hI1 k2
    have hK := kk r w1 hp (zadb σ N ad ad1) T'.heap (locs ++ Lc) ls (agree ad1 b1) b2 b3 k3 (zLh_B b1 hkp.2.1 h4)
    obtain ⟨t2, a1, a2⟩ := hK T' rfl Y'
    refine ⟨t2, ?_, a2⟩
    have e3 : List.map (zcv (zadb σ N ad ad1)) ((r.map (zrn (zsg σ N))).toList ++ S) = v.toList ++ S.map (zcv ad) := by
      cases hv
      have : S.map (zcv (zadb σ N ad ad1)) = S.map (zcv ad) := List.map_congr_left fun x hx => zcv_B b1 (List.all_eq_true.mp hkp.2.2.1 x hx)
      rw [List.map_append, this]
      congr 1
      cases r with
      | none => rfl
      | some x => simp [zcv_rn (zadb_sg hz.2.1 hz.lt)]
    rw [e3] at a1
    exact st t2 a1
  · obtain ⟨k1, k2, k3⟩ := vx_keep g0 e1 h3 (fun q _ h => hfree q h) hfree hL hF
    rw [← e1] at hR1 hce
    obtain ⟨b1, b2, b3⟩ := hz.back hkp.1 hkp.2.2.2.1 hA h1 h2 hag hR1 hI1 k2
    have hl : σ.length = w0.length := zsub_len hz.2.2.2
    have hq' : zadb σ N ad ad1 N 0 = q := by
      have := zadb_sg (ad := ad) (ad1 := ad1) hz.2.1 hz.lt w0.length 0
      rw [show zsg σ N w0.length = N by unfold zsg; rw [if_neg (by omega)]; omega] at this
      rw [this, hq]
    have hK := kx E w1 hp (zadb σ N ad ad1) T'.heap (locs ++ Lc) ls (S.map (zcv ad)) ce (agree ad1 b1) b2 b3 k3 (zLh_B b1 hkp.2.1 h4) (by rw [hq']; exact hce) hcv hcl
    rw [hq'] at hK
    obtain ⟨t2, a1, a2⟩ := hK T' rfl Y'
    exact ⟨t2, st.trans a1, a2⟩
end ZF2
end ZF1
