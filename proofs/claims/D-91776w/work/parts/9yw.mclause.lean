theorem zz_9yw : (1:Nat) = 1 := rfl
