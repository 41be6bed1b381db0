theorem zz_9yu : (1:Nat) = 1 := rfl
