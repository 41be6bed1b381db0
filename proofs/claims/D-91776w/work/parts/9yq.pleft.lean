theorem zz_9yq : (1:Nat) = 1 := rfl
