/-! a switch's rows -/
section C47S
variable {X : zX} {cc : ByteArray} {own : String} {ret : Option FieldType} {nL d mc ms nw : Nat} {np : Bool} {L : List (Option zV)} {S : List zV} {w : List zE} {k n pc : Nat}
theorem z_tswOut (F : zFix X cc own ret nL d mc ms nw np) {x : Int32} {dflt lo hi : Int} {offs : Array Int} {len tgt : Nat} (hd : decode cc pc = .ok (.tableswitch dflt lo hi offs, len)) (h : x.toInt < lo ∨ hi < x.toInt) (ht : (pc : Int) + dflt = (tgt : Int)) (kk : Z X L S w k n tgt) : Z X L (zi x :: S) w k n pc := fun ad H locs ls h0 h1 h2 h3 h4 => lv_tableOut F.1 F.2.1 hd h ht (kk ad H locs ls h0 h1 h2 h3 h4)
theorem z_tswIn (F : zFix X cc own ret nL d mc ms nw np) {x : Int32} (q : Int) {dflt lo hi : Int} {offs : Array Int} {len tgt : Nat} {off : Int} (hd : decode cc pc = .ok (.tableswitch dflt lo hi offs, len)) (hq : x.toInt = q) (h1 : ¬ q < lo) (h2 : ¬ hi < q) (ho : offs[(q - lo).toNat]? = some off) (ht : (pc : Int) + off = (tgt : Int)) (kk : Z X L S w k n tgt) : Z X L (zi x :: S) w k n pc := fun ad H locs ls h0 h1' h2' h3 h4 => lv_tableIn F.1 F.2.1 hd (by rw [hq]; exact h1) (by rw [hq]; exact h2) (by rw [hq]; exact ho) ht (kk ad H locs ls h0 h1' h2' h3 h4)
end C47S
