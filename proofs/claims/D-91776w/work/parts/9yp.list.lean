theorem zz_9yp : (1:Nat) = 1 := rfl
