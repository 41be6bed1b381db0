/-! a matrix takes the place of the one before it -/
section ZRP
variable {X : zX} {cc : ByteArray} {own : String} {ret : Option FieldType} {nL d mc ms nw : Nat} {np : Bool} {L : List (Option zV)} {S : List zV} {w : List zE} {k n pc : Nat}
def zst1 (m : Nat) (v : zV) : zV := match v with
  | .inl u => .inl u
  | .inr q => .inr (if q.1 = m then (m + 1, q.2) else q)
def zsh (m : Nat) (p j : Nat) : Nat × Nat := if p = m then (m + 1, j) else (p, j)
theorem zcv_st1 (m : Nat) (ad : Nat → Nat → Nat) (v : zV) : zcv (fun p j => ad (zsh m p j).1 (zsh m p j).2) v = zcv ad (zst1 m v) := by
  rcases v with u | ⟨p, j⟩
  · rfl
  · simp only [zcv, zst1, zsh]
theorem z_repl (F : zFix X cc own ret nL d mc ms nw np) (m : Nat) {w0 : List zE} {e0 : zE} {t te a b : Nat} {c : (Nat → Nat → Int32) ⊕ (Nat → Nat → Int64)} (L' : List (Option zV)) (hw : w = w0 ++ [e0, .inr (.inr (.inl (t, te, a, b, c)))]) (hm : w0.length = m) (hnw : nw ≤ m) (hwf : zwf m w0) (hL : L = L'.map (Option.map (zst1 m)))
    (kk : Z X L' [] (w0 ++ [.inr (.inr (.inl (t, te, a, b, c)))]) k n pc) : Z X L [] w k n pc := by
  subst hw
  subst hm
  refine z_shift F (zsh w0.length) _ L' [] (fun p j c1 h => ?_) (fun p j p' j' c1 c2 h1 h2 he => ?_) (fun p j h _ => ?_) (by rw [hL, List.length_map]) (fun ad i v h => ?_) (fun ad => rfl) kk
  · rcases zat_app h with ⟨hl, h⟩ | ⟨rfl, h⟩
    · obtain ⟨e1, h1, h2⟩ := zat_e h
      have e2 : zsh w0.length p j = (p, j) := by unfold zsh; rw [if_neg (by omega)]
      rw [e2]
      refine ⟨c1, ?_, fun cA ad => ?_⟩
      · simp only [zat, List.getElem?_append_left hl, h1]; exact h2
      · refine zcell_p hl (zwf_mem hwf e1 (List.mem_of_getElem? h1)) h2 (fun p j hp => ?_)
        show ad (zsh w0.length p j).1 (zsh w0.length p j).2 = _
        unfold zsh; rw [if_neg (by omega)]
    · have e2 : ∀ j, zsh w0.length w0.length j = (w0.length + 1, j) := fun j => by unfold zsh; rw [if_pos rfl]
      rw [e2]
      have e3 : (w0 ++ [e0, (.inr (.inr (.inl (t, te, a, b, c))) : zE)])[w0.length + 1]? = some (.inr (.inr (.inl (t, te, a, b, c)))) := by
        rw [List.getElem?_append_right (by omega), show w0.length + 1 - w0.length = 1 by omega]; rfl
      show ∃ c0, zat _ (w0.length + 1) j = some c0 ∧ _
      unfold zat
      rw [e3]
      cases j with
      | zero =>
        simp only [zcell] at h; cases h
        refine ⟨_, rfl, fun cA ad => ?_⟩
        simp only [zcc, zop, zcv, e2]
      | succ i =>
        refine ⟨c1, h, fun cA ad => ?_⟩
        simp only [zcell] at h
        split at h
        · cases h
          rcases c with f | f <;> rfl
        · cases h
  · have l1 : p ≤ w0.length := by have := zat_lt h1; simp at this; omega
    have l2 : p' ≤ w0.length := by have := zat_lt h2; simp at this; omega
    unfold zsh at he
    split at he <;> split at he <;> simp only [Prod.mk.injEq] at he <;> omega
  · unfold zsh; rw [if_neg (by omega)]
  · refine ⟨zst1 w0.length v, ?_, zcv_st1 _ _ _⟩
    rw [hL, List.getElem?_map, h]; rfl
end ZRP
