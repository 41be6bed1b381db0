/-! the law: its room, its script -/
section CB0
section RB0
variable {X : zX} {cc : ByteArray} {own : String} {ret : Option FieldType} {nL d mc ms nw : Nat} {np : Bool} {L : List (Option zV)} {S : List zV} {w : List zE} {k n pc : Nat}
theorem z_ialdQ (F : zFix X cc own ret nL d mc ms nw np) {t M i : Nat} {f : Nat → Value} {x : Int32} (hT : va_T .int t M f X.2.2.2.2.1 X.1.2.2.2.2.1 X.1.2.2.2.2.1.heap) (hM : M < 2 ^ 31) (hi : i < M) (hv : f i = .int x) (hd : decode cc pc = .ok (.iaload, 1)) (kk : Z X L (zi x :: S) w k n (pc + 1)) : Z X L (zi (nI i) :: zq t :: S) w k n pc := fun ad H locs ls h0 h1 h2 h3 h4 =>
  va_ti F.1 F.2.1 hT h3 (vp_in_nI hi hM) (by rw [zcl_n (by omega)]; exact hv) hd (kk ad H locs ls h0 h1 h2 h3 h4)
end RB0
/-- less room asks less -/
theorem W_room {p : Program} {l : Launch} {e : Env} {R R' : Room} {s : State} {m : MethodId} {args : Array Value} {below : List Frame} {meth : Method} {c : Code} {H : Heap} {locs : List Loc} {cells slots : Nat} {Q : State → Prop} {g : JFrame} (hf : R'.frames ≤ R.frames) (hl : R'.locals ≤ R.locals) (hc : R'.cells ≤ R.cells) (hs : R'.slots ≤ R.slots) (k : W p l e R' s m args below meth c H locs cells slots Q g) : W p l e R s m args below meth c H locs cells slots Q g := fun T hT X =>
  k T hT ⟨X.admits, X.cas, X.clock, X.frames, by
    have h := X.room
    simp only [State.hasRoom, Bool.and_eq_true, decide_eq_true_eq] at h ⊢
    obtain ⟨⟨⟨⟨a, b1_, b2_, b3_, b4_, b5_⟩, c⟩, d⟩, e⟩ := h
    exact ⟨⟨⟨⟨by omega, by omega, by omega, by omega, by omega, b5_⟩, by omega⟩, by omega⟩, e⟩, X.hears, X.method, X.code, X.here, X.tail, X.warmed, X.limits, X.bytes, X.same⟩
theorem va_X_T {b L : Nat} {xs : Nat → Int32} {A : Nat → Prop} {s : State} (h : va_X b L xs s s.heap) (hb : ¬ A b) : va_T .int b L (fun j => .int (xs j)) A s s.heap := by
  obtain ⟨scr, h1, h2, h3, h4, h5⟩ := h
  exact ⟨scr, h1, h2, h3, by omega, by rw [h4], h5, hb⟩
end CB0
