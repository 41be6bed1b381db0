section ZMath
variable {X : zX} {cc : ByteArray} {own : String} {ret : Option FieldType} {nL d mc ms nw : Nat} {np : Bool} {L : List (Option zV)} {S : List zV} {w : List zE} {k n pc idx : Nat}
theorem z_mmax (F : zFix X cc own ret nL d mc ms nw np) {x y : Int32} (hlk : Cond.methodLink own idx Lib.Math.max.name ∈ lw_all) (hd : decode cc pc = .ok (.invokestatic idx, 3)) (hd1 : 1 ≤ d) (hL : L.length = nL) (hS : (S.map zcat).sum ≤ 47) (hks : k ≤ mc ∧ n ≤ ms)
    (kk : Z X L (zi (if x < y then y else x) :: S) w k n (pc + 3)) : Z X L (zi y :: zi x :: S) w k n pc := fun ad H locs ls h0 h1 h2 h3 h4 =>
  va_mmax F.1 F.2.1 (by rw [F.2.2.2.2.2.2.2.2.1, h4.1, hL]) F.2.2.1 (F.2.2.2.1 _ hlk) (F.2.2.2.1 _ q414) (F.2.2.2.1 _ q126) (F.2.2.2.1 _ q415) (by rw [F.2.2.2.2.2.2.2.2.2.1]; exact hd1) (by rw [F.2.2.2.2.2.2.2.2.2.1, zsum]; show _ + 13 ≤ 60 * d; omega) (by rw [F.2.2.2.2.2.2.2.2.2.1]; exact hks.1) (by rw [F.2.2.2.2.2.2.2.2.2.1]; exact hks.2) hd (kk ad H locs ls h0 h1 h2 h3 h4)
theorem z_mmin (F : zFix X cc own ret nL d mc ms nw np) {x y : Int32} (hlk : Cond.methodLink own idx Lib.Math.min.name ∈ lw_all) (hd : decode cc pc = .ok (.invokestatic idx, 3)) (hd1 : 1 ≤ d) (hL : L.length = nL) (hS : (S.map zcat).sum ≤ 47) (hks : k ≤ mc ∧ n ≤ ms)
    (kk : Z X L (zi (if y < x then y else x) :: S) w k n (pc + 3)) : Z X L (zi y :: zi x :: S) w k n pc := fun ad H locs ls h0 h1 h2 h3 h4 =>
  va_mmin F.1 F.2.1 (by rw [F.2.2.2.2.2.2.2.2.1, h4.1, hL]) F.2.2.1 (F.2.2.2.1 _ hlk) (F.2.2.2.1 _ q619) (F.2.2.2.1 _ q126) (F.2.2.2.1 _ q620) (by rw [F.2.2.2.2.2.2.2.2.2.1]; exact hd1) (by rw [F.2.2.2.2.2.2.2.2.2.1, zsum]; show _ + 13 ≤ 60 * d; omega) (by rw [F.2.2.2.2.2.2.2.2.2.1]; exact hks.1) (by rw [F.2.2.2.2.2.2.2.2.2.1]; exact hks.2) hd (kk ad H locs ls h0 h1 h2 h3 h4)
theorem z_mabs (F : zFix X cc own ret nL d mc ms nw np) {x : Int32} (hlk : Cond.methodLink own idx Lib.Math.abs.name ∈ lw_all) (hd : decode cc pc = .ok (.invokestatic idx, 3)) (hd1 : 1 ≤ d) (hL : L.length = nL) (hS : (S.map zcat).sum ≤ 47) (hks : k ≤ mc ∧ n ≤ ms)
    (kk : Z X L (zi (if 0 ≤ x then x else 0 - x) :: S) w k n (pc + 3)) : Z X L (zi x :: S) w k n pc := fun ad H locs ls h0 h1 h2 h3 h4 =>
  va_mabs F.1 F.2.1 (by rw [F.2.2.2.2.2.2.2.2.1, h4.1, hL]) F.2.2.1 (F.2.2.2.1 _ hlk) (F.2.2.2.1 _ q1268) (F.2.2.2.1 _ q126) (F.2.2.2.1 _ q1269) (by rw [F.2.2.2.2.2.2.2.2.2.1]; exact hd1) (by rw [F.2.2.2.2.2.2.2.2.2.1, zsum]; show _ + 13 ≤ 60 * d; omega) (by rw [F.2.2.2.2.2.2.2.2.2.1]; exact hks.1) (by rw [F.2.2.2.2.2.2.2.2.2.1]; exact hks.2) hd (kk ad H locs ls h0 h1 h2 h3 h4)
theorem z_mminl (F : zFix X cc own ret nL d mc ms nw np) {x y : Int64} (hlk : Cond.methodLink own idx Lib.MathLoose.min_long.x ∈ lw_all) (hd : decode cc pc = .ok (.invokestatic idx, 3)) (hd1 : 1 ≤ d) (hL : L.length = nL) (hS : (S.map zcat).sum ≤ 45) (hks : k ≤ mc ∧ n ≤ ms)
    (kk : Z X L (zl (if y < x then y else x) :: S) w k n (pc + 3)) : Z X L (zl y :: zl x :: S) w k n pc := fun ad H locs ls h0 h1 h2 h3 h4 =>
  va_mmin_long F.1 F.2.1 (by rw [F.2.2.2.2.2.2.2.2.1, h4.1, hL]) F.2.2.1 (F.2.2.2.1 _ hlk) (F.2.2.2.1 _ q1062) (F.2.2.2.1 _ q126) (F.2.2.2.1 _ q1063) (by rw [F.2.2.2.2.2.2.2.2.2.1]; exact hd1) (by rw [F.2.2.2.2.2.2.2.2.2.1, zsum]; show _ + 15 ≤ 60 * d; omega) (by rw [F.2.2.2.2.2.2.2.2.2.1]; exact hks.1) (by rw [F.2.2.2.2.2.2.2.2.2.1]; exact hks.2) hd (kk ad H locs ls h0 h1 h2 h3 h4)
theorem mmaxN {a b : Nat} (ha : a < 2 ^ 31) (hb : b < 2 ^ 31) : (if nI a < nI b then nI b else nI a) = nI (max a b) := by
  split
  · rename_i h; have := (nI_ltI ha hb).mp h; rw [Nat.max_eq_right (by omega)]
  · rename_i h; have : b ≤ a := Nat.not_lt.mp fun q => h ((nI_ltI ha hb).mpr q)
    rw [Nat.max_eq_left this]
theorem mminN {a b : Nat} (ha : a < 2 ^ 31) (hb : b < 2 ^ 31) : (if nI b < nI a then nI b else nI a) = nI (min a b) := by
  split
  · rename_i h; have := (nI_ltI hb ha).mp h; rw [Nat.min_eq_right (by omega)]
  · rename_i h; have : a ≤ b := Nat.not_lt.mp fun q => h ((nI_ltI hb ha).mpr q)
    rw [Nat.min_eq_left this]
end ZMath
