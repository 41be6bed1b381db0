/-! a place is forgotten -/
section ZFG
variable {X : zX} {cc : ByteArray} {own : String} {ret : Option FieldType} {nL d mc ms nw : Nat} {np : Bool} {L : List (Option zV)} {S : List zV} {w : List zE} {k n pc : Nat}
theorem z_forget (F : zFix X cc own ret nL d mc ms nw np) (m : Nat) {w' : List zE} (hw' : w' = w.set m zH) (kk : Z X L S w' k n pc) : Z X L S w k n pc := by
  refine z_shift F (fun p j => (p, j)) w' L S (fun p j c h => ?_) (fun p j p' j' c c' a b he => by cases he; exact ⟨rfl, rfl⟩) (fun p j _ _ => rfl) rfl (fun ad i v h => ⟨v, h, rfl⟩) (fun ad => rfl) kk
  subst hw'
  obtain ⟨e, a1, a2⟩ := zat_e h
  by_cases q : p = m
  · subst q
    have hl : p < w.length := by have := (List.getElem?_eq_some_iff.mp a1).1; simpa using this
    rw [List.getElem?_set_self hl] at a1
    cases a1
    cases a2
  · rw [List.getElem?_set_ne (fun z => q z.symm)] at a1
    exact ⟨c, by simp only [zat, a1]; exact a2, fun cA ad => rfl⟩
end ZFG
