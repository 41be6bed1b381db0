theorem zz_9yn : (1:Nat) = 1 := rfl
