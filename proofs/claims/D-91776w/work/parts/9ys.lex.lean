theorem zz_9ys : (1:Nat) = 1 := rfl
