theorem zz_9yv : (1:Nat) = 1 := rfl
