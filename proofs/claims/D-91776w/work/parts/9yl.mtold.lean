theorem zz_9yl : (1:Nat) = 1 := rfl
