theorem zz_9yk : (1:Nat) = 1 := rfl
