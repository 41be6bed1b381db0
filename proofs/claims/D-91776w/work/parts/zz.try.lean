theorem zz_t : (1:Nat) = 1 := rfl
