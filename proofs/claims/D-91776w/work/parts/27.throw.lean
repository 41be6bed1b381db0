/-! throw new E(): out of the method -/
section ZT1
def zThr (own : String) (ik ic : Nat) (cls : String) (names : List String) : Bool := Bundle.fit cls && (names.all Bundle.fit && (Cond.classLink own ik cls :: Cond.initialized cls :: vx_at0 own ic cls names).all (fun w => decide (w ∈ lw_tbl) && ((goodWord w || zNok w) && vx_ot w)))
variable {X : zX} {cc : ByteArray} {own : String} {ret : Option FieldType} {nL d mc ms nw : Nat} {np : Bool} {L : List (Option zV)} {S : List zV} {w : List zE} {k n pc : Nat} {post : Option zV → List zE → Prop} {xpost : String → List zE → Prop}
theorem zNok_use {w : Cond} (h : zNok w = true) {s : State} {a : Array Value} (hz : va_Nw w s) : w.before a s = true := by
  cases w <;> first | exact va_Nw.use rfl hz | cases h | (rename_i t; cases t <;> first | exact over_moved (a := #[]) (a' := a) (Vm.Alike.refl s.vm) hz | exact va_AO.use hz | cases h)
theorem z_word (F : zFix X cc own ret nL d mc ms nw np) {w : Cond} (h : w ∈ lw_tbl) (hg : (goodWord w || zNok w) = true) : w.before X.1.2.2.2.2.2.2.1 X.1.2.2.2.2.1 = true := by
  by_cases g : goodWord w = true
  · exact F.2.2.2.1 _ (List.mem_filter.mpr ⟨h, g⟩)
  · have h2 : zNok w = true := by simpa [g] using hg
    exact zNok_use h2 (F.2.2.2.2.2.2.2.2.2.2.1.2.1 _ (zNest_of h h2))
theorem z_throw0 (F : zFix X cc own ret nL d mc ms nw np) (E : zEnd X post xpost mc ms) (hno : zNoH X) {cls : String} {names : List String} {ik ic : Nat} (hw : zThr own ik ic cls names = true) (hd : names.length + 4 ≤ d) (hL : L.length = nL) (hS : (S.map zcat).sum ≤ 8)
    (d0 : decode cc pc = .ok (.new ik, 3)) (d3 : decode cc (pc + 3) = .ok (.dup, 1)) (d4 : decode cc (pc + 4) = .ok (.invokespecial ic, 3)) (d7 : decode cc (pc + 7) = .ok (.athrow, 1))
    (hk : k + 1 ≤ mc) (hn : n + 6 ≤ ms) (hwl : w.length = nw) (hwf : zwf nw w) (hp : xpost cls w) : Z X L S w k n pc := fun ad H locs ls h0 h1 h2 h3 h4 => by
  unfold zThr at hw
  simp only [Bool.and_eq_true, List.all_eq_true, decide_eq_true_eq] at hw
  obtain ⟨a1, a2, a3⟩ := hw
  have hwd : ∀ w ∈ Cond.classLink own ik cls :: Cond.initialized cls :: vx_at0 own ic cls names, w.before X.1.2.2.2.2.2.2.1 X.1.2.2.2.2.1 = true := fun w h => z_word F (a3 w h).1 (a3 w h).2.1
  have hroom := F.2.2.2.2.2.2.2.2.2.1
  have hst := F.2.2.2.2.2.2.2.2.2.2.1
  have e1 : X.2.2.2.2.2.2.length = nw := F.2.2.2.2.2.2.2.2.2.2.2.1
  unfold zWj
  rw [E.1]
  refine vx_throw0 (names := names) (A := X.2.2.2.2.1) F.1 F.2.1 hst.1 F.2.2.1 a1 a2 (hwd _ List.mem_cons_self) (hwd _ (List.mem_cons_of_mem _ List.mem_cons_self)) (fun w h => hwd w (List.mem_cons_of_mem _ (List.mem_cons_of_mem _ h))) (fun w h => (a3 w h).2.2) hst.2.2.1 hst.2.2.2.1 h3 (by rw [F.2.2.2.2.2.2.2.2.1, ← hL]; exact h4.1) d0 d3 d4 d7 (fun x hx => (hno x hx).elim) (by rw [hroom]; show _ < d; omega) ?_ (by rw [hroom]; exact hk) (by rw [hroom]; exact hn) F.2.2.2.2.2.2.1 ?_ (fun z hz => by have := h3.2.2 z hz; rwa [E.2] at this) hk hn
  · rw [hroom]
    have : ((S.map (zcv ad)).map fun v => v.category).sum = (S.map zcat).sum := by
      rw [List.map_map]
      congr 1
      exact List.map_congr_left fun v _ => zcat_cv ad v
    show ((S.map (zcv ad)).map fun v => v.category).sum + (13 * (names.length + 1) + 42) ≤ 60 * d
    rw [this]
    omega
  · intro q9 t _ hsz hold
    have hlo : ∀ p j, p < nw → zad1 ad nw q9 p j = ad p j := zad1_lo
    have hlt : ∀ p j c, zat w p j = some c → p < nw := fun p j c h => by have := zat_lt h; omega
    refine ⟨⟨w, zad1 ad nw q9, hp, fun p j hq hl => by rw [hlo p j (by omega)]; exact h0 p j hq hl, fun p j c h => ?_, ⟨fun p j p' j' c c' a b he => ?_, fun p j c a => ?_⟩, by rw [e1]; simp [zad1]⟩, ?_⟩
    · obtain ⟨e, b1, b2⟩ := zat_e h
      rw [hlo p j (hlt p j c h), zcell_p (hlt p j c h) (zwf_mem hwf e (List.mem_of_getElem? b1)) b2 hlo]
      exact (h1 p j c h).kept (hold _ (h1 p j c h).lt)
    · rw [hlo p j (hlt p j c a), hlo p' j' (hlt p' j' c' b)] at he
      exact h2.1 _ _ _ _ _ _ a b he
    · rw [hlo p j (hlt p j c a), ← E.2]
      exact h2.2 _ _ _ a
    · rw [← E.2]
      exact ⟨Nat.le_trans h3.1 hsz, fun q hq hA => (hold q (Nat.lt_of_lt_of_le hq h3.1)).trans (h3.2.1 q hq hA)⟩
def nmE : List String := ["java/lang/RuntimeException","java/lang/Exception"]
def eNSE : String := "java/util/NoSuchElementException"
def eIAE : String := "java/lang/IllegalArgumentException"
theorem thr_nse : zThr "WiredNets" 1 3 eNSE nmE = true := by decide +kernel
theorem thr_iae : zThr "WiredNets" 7 9 eIAE nmE = true := by decide +kernel
end ZT1
