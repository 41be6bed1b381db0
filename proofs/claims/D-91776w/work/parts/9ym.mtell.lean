theorem zz_9ym : (1:Nat) = 1 := rfl
