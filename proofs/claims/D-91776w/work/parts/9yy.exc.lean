/-! exceptions that are objects of the program: thrown, kept, caught -/
section C9yy
section EX1
variable {X : zX} {cc : ByteArray} {own : String} {ret : Option FieldType} {nL d mc ms nw : Nat} {np : Bool} {L : List (Option zV)} {S : List zV} {w : List zE} {k n pc : Nat} {post : Option zV → List zE → Prop} {xpost : String → List zE → Prop}
theorem z_athrow (F : zFix X cc own ret nL d mc ms nw np) {p ci Nf : Nat} {C : String} {T : u_T} {ty0 : Nat → FieldType} {fs : List zV} (hC : zCl ci C T Nf ty0) (hw : w[p]? = some (zO ci fs)) (hd : decode cc pc = .ok (.athrow, 1)) (kk : ZX X L w k n pc C p) : Z X L (zr p 0 :: S) w k n pc := fun ad H locs ls h0 h1 h2 h3 h4 => by
  have hat := h1 p 0 (.inl (ci, fs)) (by simp [zat, hw, zcell])
  obtain ⟨q', g0, cell, g1, g2, g3, -⟩ := (show va_at X.2.2.1 zcl (ad p 0, zcc X.2.2.2.1 ad (.inl (ci, fs))) H from hat)
  refine vx_athrow F.1 F.2.1 hd (kk ad H locs ls _ cell h0 h1 h2 h3 h4 g1 g3 ?_)
  rw [g2]; exact (F.2.2.2.2.1.1 ci _ hC.1).2.1
/-- only the entries of the start, and the exception with its fields behind them -/
theorem zx_cutO {pe ci : Nat} {Ex : String} {m : Nat} {fs : List zV} (hm : m ≤ pe) (hm0 : 0 < m) (hX : X.2.2.2.2.2.2.length ≤ m) (w1 : List zE) (hw1 : w1 = w.take m) (he : w[pe]? = some (zO ci fs)) (hfs : fs.all (fun v => v.isLeft) = true) (hwf : zwf m w1) (hL : L.all (zoN m) = true) (kk : ZX X L (w1 ++ [zO ci fs]) k n pc Ex m) : ZX X L w k n pc Ex pe := fun ad H locs ls st ce h0 h1 h2 h3 h4 h5 h6 h7 => by
  have hlo : ∀ p j, p < m → zad1 ad m (ad pe 0) p j = ad p j := zad1_lo
  have hlw : pe < w.length := by
    rcases Nat.lt_or_ge pe w.length with h | h
    · exact h
    · rw [List.getElem?_eq_none h] at he; cases he
  have hl1 : w1.length = m := by rw [hw1, List.length_take]; omega
  have em : zad1 ad m (ad pe 0) m 0 = ad pe 0 := by simp [zad1]
  have hpe : zat w pe 0 = some (.inl (ci, fs)) := by simp [zat, he, zcell]
  have hat : ∀ p j c, zat (w1 ++ [zO ci fs]) p j = some c → (p < m ∧ zat w p j = some c ∧ ∃ e, e ∈ w1 ∧ zcell p e j = some c) ∨ (p = m ∧ j = 0 ∧ c = .inl (ci, fs)) := fun p j c h => by
    obtain ⟨e, a1, a2⟩ := zat_e h
    rcases Nat.lt_or_ge p m with q | q
    · rw [List.getElem?_append_left (by omega)] at a1
      refine Or.inl ⟨q, ?_, e, List.mem_of_getElem? a1, a2⟩
      rw [hw1, List.getElem?_take, if_pos q] at a1
      simp only [zat, a1]; exact a2
    · rw [List.getElem?_append_right (by omega), hl1] at a1
      rcases Nat.eq_or_lt_of_le q with q1 | q1
      · subst q1
        rw [Nat.sub_self] at a1
        cases a1
        simp only [zcell] at a2
        split at a2
        · cases a2; exact Or.inr ⟨rfl, by assumption, rfl⟩
        · cases a2
      · obtain ⟨t, ht⟩ : ∃ t, p - m = t + 1 := ⟨p - m - 1, by omega⟩
        rw [ht] at a1
        cases a1
  have ec : ∀ ad', zcc X.2.2.2.1 ad' (.inl (ci, fs)) = zcc X.2.2.2.1 ad (.inl (ci, fs)) := fun ad' => by
    have e1 : fs.map (zcv ad') = fs.map (zcv ad) := List.map_congr_left fun v hv => by
      have := List.all_eq_true.mp hfs v hv
      rcases v with x | x
      · rfl
      · cases this
    show Sum.inr (ci, fs.map (zcv ad')) = Sum.inr (ci, fs.map (zcv ad))
    rw [e1]
  have hh := kk (zad1 ad m (ad pe 0)) H locs ls st ce (fun p j hp hl => by rw [hlo p j (by omega)]; exact h0 p j hp hl)
    (fun p j c h => by
      rcases hat p j c h with ⟨a1, a2, e, b1, b2⟩ | ⟨rfl, rfl, rfl⟩
      · rw [hlo p j a1, zcell_p a1 (zwf_mem hwf e b1) b2 hlo]
        exact h1 p j c a2
      · rw [em, ec]
        exact h1 pe 0 _ hpe)
    ⟨fun p j p' j' c c' a b he => by
      rcases hat p j c a with ⟨a1, a2, -⟩ | ⟨rfl, rfl, -⟩
      · rcases hat p' j' c' b with ⟨b1, b2, -⟩ | ⟨rfl, rfl, -⟩
        · rw [hlo p j a1, hlo p' j' b1] at he
          exact h2.1 _ _ _ _ _ _ a2 b2 he
        · rw [hlo p j a1, em] at he
          obtain ⟨e1, -⟩ := h2.1 _ _ _ _ _ _ a2 hpe he
          omega
      · rcases hat p' j' c' b with ⟨b1, b2, -⟩ | ⟨rfl, rfl, -⟩
        · rw [hlo p' j' b1, em] at he
          obtain ⟨e1, -⟩ := h2.1 _ _ _ _ _ _ hpe b2 he
          omega
        · exact ⟨rfl, rfl⟩, fun p j c a => by
      rcases hat p j c a with ⟨a1, a2, -⟩ | ⟨rfl, rfl, -⟩
      · rw [hlo p j a1]; exact h2.2 _ _ _ a2
      · rw [em]; exact h2.2 _ _ _ hpe⟩ h3 (by unfold zLh; rw [zal_eq hlo hL]; exact h4)
  rw [em] at hh
  exact hh h5 h6 h7
/-- caught by the row x of the table; the rows ahead don't take it -/
def zHok (own : String) (ct : Nat) (name E : String) : Bool := [Cond.classLink own ct name, Cond.castable E name].all (fun w => decide (w ∈ lw_tbl) && (goodWord w || zNok w))
theorem zx_catch (F : zFix X cc own ret nL d mc ms nw np) {E name : String} {pe : Nat} {hh : List (Nat × Nat × Nat × Nat)} (hT : X.1.2.2.2.2.2.2.2.2.2.exceptionTable.toList = tableOf hh) (pre : List ExceptionTableEntry) (x : ExceptionTableEntry) (suf : List ExceptionTableEntry) (hsplit : tableOf hh = pre ++ x :: suf) (hpass : ∀ z ∈ pre, covers z pc = false) (hx : covers x pc = true) (h0 : x.catchType ≠ 0) (hok : zHok own x.catchType name E = true) (kk : Z X L [zr pe 0] w k n x.handlerPc) : ZX X L w k n pc E pe := fun ad H locs ls st ce g0 g1 g2 g3 g4 g5 g6 g7 => by
  unfold zHok at hok
  rw [List.all_eq_true] at hok
  have hwd : ∀ w ∈ [Cond.classLink own x.catchType name, Cond.castable E name], w.before X.1.2.2.2.2.2.2.1 X.1.2.2.2.2.1 = true := fun w h => by
    have := hok w h
    rw [Bool.and_eq_true, decide_eq_true_eq] at this
    exact z_word F this.1 this.2
  exact vx_catch F.2.2.1 pre x suf (hT.trans hsplit) (fun z hz => Or.inl (hpass z hz)) hx h0 (hwd _ List.mem_cons_self) (hwd _ (List.mem_cons_of_mem _ List.mem_cons_self)) g5 g6 g7 (kk ad H locs ls g0 g1 g2 g3 g4)
end EX1
/-- the contract of a method with handlers -/
def zCtrW (y : MethodName) (cc : ByteArray) (nL : Nat) (ret : Option FieldType) (hh : List (Nat × Nat × Nat × Nat)) (d mc ms : Nat) (av : List zV) (w0 : List zE) (post : Option zV → List zE → Prop) (xpost : String → List zE → Prop) : Prop :=
  ∀ l, zMet l (wsW_ y cc nL ret hh) y d mc ms av w0 post xpost
theorem z_startW {y : MethodName} {cc : ByteArray} {nL : Nat} {ret : Option FieldType} {hh : List (Nat × Nat × Nat × Nat)} {d mc ms : Nat} {av : List zV} {w0 : List zE} {post : Option zV → List zE → Prop} {xpost : String → List zE → Prop} (hy : plainName y.cls = true) (L0 : List (Option zV)) (hL0 : L0.length = nL) (hsl : ∀ ad, (lg_sl (av.map (zcv ad))).length ≤ nL) (hL : ∀ ad, zal ad L0 = lv_args 0 (av.map (zcv ad)))
    (body : ∀ X : zX, zFix X cc y.cls ret nL d mc ms w0.length (zisP w0) → zEnd X post xpost mc ms → X.1.2.2.2.2.2.2.2.2.2.exceptionTable.toList = tableOf hh → X.1.2.2.2.2.2.2.2.2.1.name = y.name → Z X L0 [] w0 0 0 0) : zCtrW y cc nL ret hh d mc ms av w0 post xpost := by
  intro l D cA ad0 sz
  refine vx_ofWH (cc := cc) (maxL := nL) (ret := ret) (hh := hh) hy rfl ?_
  intro p e s m args below meth c s₁ B hml hv
  obtain ⟨rfl, hsz, hR, hI, hK, hG⟩ := hv
  subst hsz
  have hts := atoms_spec (ws := wsW_ y cc nL ret hh) B.pre
  have ht := vx_table (x := y) B (hts _ List.mem_cons_self)
  have hts : ∀ w ∈ lw_all, w.before _ s = true := fun w h => hts w (List.mem_cons_of_mem _ h)
  have hl := lv_entry (av.map (zcv ad0)) (hsl ad0)
  have hb := body ((p, l, e, (headSpec (wsW_ y cc nL ret hh) (zRm d mc ms)).room, s, m, (av.map (zcv ad0)).toArray, below, meth, c), vx_MQ below (zQc D cA ad0 w0 s.heap.size post) (zXC D cA ad0 w0 s.heap.size xpost) (av.map (zcv ad0)).toArray s mc ms (zfr ad0 w0 s.heap.size), D, cA, zfr ad0 w0 s.heap.size, ad0, w0)
    ⟨B.exec, B.bytes, findClass_of_methodNamed B.named, hts, hK, fun q h => Or.inr h, B.notSynchronized, B.returns, hml, rfl, hG, rfl, rfl⟩ ⟨rfl, rfl⟩ ht (name_of_methodNamed B.named B.method).1
    ad0 s.heap [] _ (fun _ _ _ _ => rfl) hR ⟨hI.1, fun p j c h => Or.inl ⟨p, j, c, h, rfl⟩⟩ va_S.rf (by unfold zLh; rw [hL0, hL]; exact hl)
  rw [lg_entry_eq]
  exact hb
section EX2
variable {X : zX} {cc : ByteArray} {own : String} {ret : Option FieldType} {nL d mc ms nw : Nat} {np : Bool} {L : List (Option zV)} {S : List zV} {w : List zE} {k n pc : Nat}
variable {post : Option zV → List zE → Prop} {xpost : String → List zE → Prop} {w0 : List zE} {y : MethodName} {cc' : ByteArray} {nL' d' mc' ms' idx : Nat} {ret' : Option FieldType} {hh : List (Nat × Nat × Nat × Nat)} {as st0 : List zV}
theorem z_callVW (F : zFix X cc own ret nL d mc ms nw np) {p0 ci Nf : Nat} {fs : List zV} {T : u_T} {ty0 : Nat → FieldType} (C : zCtrW y cc' nL' ret' hh d' mc' ms' (zr p0 0 :: as) w0 post xpost) (na : Nat) (hna : as.length = na) (hG : GoodIn lw_all (wsV own idx y.cls y (wsW_ y cc' nL' ret' hh))) (hy : y.cls = y.cls ∧ y.cls ≠ "java/lang/invoke/MethodHandle" ∧ y.cls ≠ "java/lang/invoke/VarHandle" ∧ (parseMethodDescriptor y.desc).map (fun d => d.parameters.length) = some na)
    (hrm : d' + 1 ≤ d ∧ nL' ≤ 41) (hks : k + mc' ≤ mc ∧ n + ms' ≤ ms) (σ : List Nat) (N : Nat) (hz : zcall σ N w w0) (hpl : zisP w0 = true → np = true) (hnw : nw ≤ N) (hkp : zkept σ N w0 w L S) (hnL : L.length = nL) (hC : zCl ci y.cls T Nf ty0) (hrc : zat w0 p0 0 = some (.inl (ci, fs))) (hst : st0 = (as.map (zrn (zsg σ N))).reverse ++ zr (zsg σ N p0) 0 :: S) (hd : decode cc pc = .ok (.invokevirtual idx, 3))
    (kk : ∀ r w1, post r w1 → Z X L ((r.map (zrn (zsg σ N))).toList ++ S) (zbk σ N w0 w1 0 w) (k + mc') (n + ms') (pc + 3))
    (kx : ∀ E w1, xpost E w1 → ZX X L (zbk σ N w0 w1 0 w) (k + mc') (n + ms') pc E N) : Z X L st0 w k n pc := fun ad H locs ls h0 h1 h2 h3 h4 => by
  refine z_go F hz hpl hnw hkp h0 h1 h2 h3 h4 (a := (Value.ref (zadc σ N ad p0 0) :: as.map (zcv (zadc σ N ad))).toArray) ?_ kk kx
  have hrel := hz.rel h1
  exact vx_runVX (As := as.map (zcv (zadc σ N ad))) ⟨F.1, F.2.1, F.2.2.2.2.2.2.2.2.1, F.2.2.1, F.2.2.2.1⟩ (C X.1.2.1 X.2.2.1 X.2.2.2.1 (zadc σ N ad) H.size) (vx_cwVW na F.2.2.2.1 hG rfl rfl rfl hy ⟨by rw [F.2.2.2.2.2.2.2.2.2.1]; exact hrm.1, by rw [F.2.2.2.2.2.2.2.2.2.1]; show 8 + (nL' + 11) + 60 * d' ≤ 60 * d; omega⟩)
    ⟨zPc_blind, va_recv F.2.2.2.2.1 (zsing (hrel p0 0 _ hrc)) (q0 := 0) hC.1 rfl, fun U hU hW => z_pre F hz h1 h2 h3 (av := zr p0 0 :: as) U hU hW⟩ rfl (by simpa using hna) (h4.1.trans hnL) (by subst hst; show List.map _ _ = _; rw [List.map_append, zstk]; rfl) (lv_room (by rw [zsum]; exact hkp.2.2.2.2)) hd (by rw [F.2.2.2.2.2.2.2.2.2.1]; exact hks)
theorem z_callSW (F : zFix X cc own ret nL d mc ms nw np) (C : zCtrW y cc' nL' ret' hh d' mc' ms' as w0 post xpost) (na : Nat) (hna : as.length = na) (hG : GoodIn lw_all (va_wsS own idx y (wsW_ y cc' nL' ret' hh))) (hy : y.cls ≠ "java/lang/invoke/MethodHandle" ∧ y.cls ≠ "java/lang/invoke/VarHandle" ∧ (parseMethodDescriptor y.desc).map (fun d => d.parameters.length) = some na)
    (hrm : d' + 1 ≤ d ∧ nL' ≤ 41) (hks : k + mc' ≤ mc ∧ n + ms' ≤ ms) (σ : List Nat) (N : Nat) (hz : zcall σ N w w0) (hpl : zisP w0 = true → np = true) (hnw : nw ≤ N) (hkp : zkept σ N w0 w L S) (hnL : L.length = nL) (hst : st0 = (as.map (zrn (zsg σ N))).reverse ++ S) (hd : decode cc pc = .ok (.invokestatic idx, 3))
    (kk : ∀ r w1, post r w1 → Z X L ((r.map (zrn (zsg σ N))).toList ++ S) (zbk σ N w0 w1 0 w) (k + mc') (n + ms') (pc + 3))
    (kx : ∀ E w1, xpost E w1 → ZX X L (zbk σ N w0 w1 0 w) (k + mc') (n + ms') pc E N) : Z X L st0 w k n pc := fun ad H locs ls h0 h1 h2 h3 h4 => by
  refine z_go F hz hpl hnw hkp h0 h1 h2 h3 h4 (a := (as.map (zcv (zadc σ N ad))).toArray) ?_ kk kx
  exact vx_runSX (As := as.map (zcv (zadc σ N ad))) ⟨F.1, F.2.1, F.2.2.2.2.2.2.2.2.1, F.2.2.1, F.2.2.2.1⟩ (C X.1.2.1 X.2.2.1 X.2.2.2.1 (zadc σ N ad) H.size) (vx_cwSW na F.2.2.2.1 hG rfl rfl rfl hy ⟨by rw [F.2.2.2.2.2.2.2.2.2.1]; exact hrm.1, by rw [F.2.2.2.2.2.2.2.2.2.1]; show 8 + (nL' + 11) + 60 * d' ≤ 60 * d; omega⟩)
    ⟨zPc_blind, fun U hU hW => z_pre F hz h1 h2 h3 U hU hW⟩ rfl (by simpa using hna) (h4.1.trans hnL) (by subst hst; show List.map _ _ = _; rw [List.map_append, zstk]; rfl) (lv_room (by rw [zsum]; exact hkp.2.2.2.2)) hd (by rw [F.2.2.2.2.2.2.2.2.2.1]; exact hks)
end EX2
end C9yy
