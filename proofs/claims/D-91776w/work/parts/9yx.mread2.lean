theorem zz_9yx : (1:Nat) = 1 := rfl
