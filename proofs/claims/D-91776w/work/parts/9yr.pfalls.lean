theorem zz_9yr : (1:Nat) = 1 := rfl
