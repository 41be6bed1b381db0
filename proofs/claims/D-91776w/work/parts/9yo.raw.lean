theorem zz_9yo : (1:Nat) = 1 := rfl
