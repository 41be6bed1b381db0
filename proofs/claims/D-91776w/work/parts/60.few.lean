/-! missing, halves, count -/
section C60
theorem cpr_bd {n : Nat} (f : Nat → Int32) (hn : n ≤ 24) : cpr n f ≤ 1000000 := by
  unfold cpr
  split
  · exact Nat.le_refl _
  · rename_i v h
    have h1 := cfa_lt _ _ _ _ _ h
    have h2 := csm_le n f n
    have h3 : csm n f ≤ n * 32768 := h2
    have h4 : n * 32768 ≤ 24 * 32768 := Nat.mul_le_mul_right _ hn
    omega
theorem pt_jn {f : Nat → Int32} {a b : Nat} (ha : a < 32) (hb : b < 32) (hab : a ≠ b) (h1 : bt (f a) b = false) (h2 : bt (f b) a = false) : pt (jn f a b) a b = f := by
  have e : ∀ (x : Int32) (k : Nat), k < 32 → bt x k = false → (x ||| b1 k) &&& (b1 k ^^^ (-1)) = x := fun x k hk h => b_ext fun i hi => by
    rw [bt_clr _ hk hi, bt_or1 _ hk]
    by_cases q : i = k
    · subst q; simp [h]
    · simp [q]
  have e1 : jn f a b a = f a ||| b1 b := by
    unfold jn; rw [upd_at, if_neg hab, upd_at, if_pos rfl]
  have e2 : jn f a b b = f b ||| b1 a := by
    unfold jn; rw [upd_at, if_pos rfl, upd_at, if_neg (fun z => hab z.symm)]
  funext k
  unfold pt
  rw [upd_at]
  by_cases q1 : k = b
  · rw [if_pos q1, upd_at, if_neg (fun z => hab z.symm), e2, q1]
    exact e (f b) a ha h2
  · rw [if_neg q1, upd_at]
    by_cases q2 : k = a
    · rw [if_pos q2, e1, q2]
      exact e (f a) b hb h1
    · rw [if_neg q2]
      unfold jn
      rw [upd_at, if_neg q1, upd_at, if_neg q2]
theorem jn_sym {n : Nat} {f : Nat → Int32} {a b : Nat} (ha : a < 32) (hb : b < 32) (hs : ∀ x y, x < n → y < n → bt (f x) y = bt (f y) x) : ∀ x y, x < n → y < n → bt (jn f a b x) y = bt (jn f a b y) x := fun x y hx hy => by
  rw [bt_jn ha hb, bt_jn ha hb, hs x y hx hy, Bool.or_assoc, Bool.or_assoc, Bool.or_comm (decide (x = a) && decide (y = b)), Bool.and_comm (decide (x = b)) (decide (y = a)), Bool.and_comm (decide (x = a)) (decide (y = b))]
-- the line that is missing most
abbrev MS : Type := Option (Nat × Nat × Nat)
def msx (s : MS) (a b v : Nat) : MS := match s with
  | none => some (a, b, v)
  | some q => if v < q.2.2 then some (a, b, v) else some q
def msr (n : Nat) (f : Nat → Int32) (a : Nat) (s : MS) : Nat → MS
  | 0 => s
  | b + 1 => if a < b ∧ bt (f a) b = false then msx (msr n f a s b) a b (cpr n (jn f a b)) else msr n f a s b
def msa (n : Nat) (f : Nat → Int32) : Nat → MS
  | 0 => none
  | a + 1 => msr n f a (msa n f a) n
def msI (s : MS) : Int32 := match s with
  | none => -1
  | some q => nI (32 * q.1 + q.2.1)
def msV (s : MS) : Nat := match s with
  | none => 0
  | some q => q.2.2
def mok (s : MS) : Prop := ∀ q, s = some q → q.1 < 32 ∧ q.2.1 < 32 ∧ q.2.2 ≤ 1000000
theorem msx_ok {s : MS} {a b v : Nat} (h : mok s) (ha : a < 32) (hb : b < 32) (hv : v ≤ 1000000) : mok (msx s a b v) := fun q hq => by
  unfold msx at hq
  split at hq
  · cases hq; exact ⟨ha, hb, hv⟩
  · split at hq
    · cases hq; exact ⟨ha, hb, hv⟩
    · cases hq; exact h _ rfl
theorem msr_ok {n : Nat} {f : Nat → Int32} {a : Nat} {s : MS} (hn : n ≤ 24) (ha : a < 24) (h : mok s) : ∀ b, b ≤ 24 → mok (msr n f a s b)
  | 0, _ => h
  | b + 1, hb => by
    unfold msr
    split
    · exact msx_ok (msr_ok hn ha h b (by omega)) (by omega) (by omega) (cpr_bd _ hn)
    · exact msr_ok hn ha h b (by omega)
theorem msa_ok {n : Nat} {f : Nat → Int32} (hn : n ≤ 24) : ∀ a, a ≤ 24 → mok (msa n f a)
  | 0, _ => fun q hq => nomatch hq
  | a + 1, ha => msr_ok hn (by omega) (msa_ok hn a (by omega)) n hn
theorem msr_lo {n : Nat} {f : Nat → Int32} {a : Nat} {s : MS} : ∀ b, b ≤ a + 1 → msr n f a s b = s
  | 0, _ => rfl
  | b + 1, h => by rw [msr, if_neg (by omega), msr_lo b (by omega)]
theorem msr_y {n : Nat} {f : Nat → Int32} {a b : Nat} {s : MS} (h : a < b) (h2 : bt (f a) b = false) : msr n f a s (b + 1) = msx (msr n f a s b) a b (cpr n (jn f a b)) := by rw [msr, if_pos ⟨h, h2⟩]
theorem msr_n {n : Nat} {f : Nat → Int32} {a b : Nat} {s : MS} (h2 : bt (f a) b = true) : msr n f a s (b + 1) = msr n f a s b := by rw [msr, if_neg (by rw [h2]; simp)]
theorem msV_le {s : MS} (h : mok s) : msV s ≤ 1000000 := by
  cases s with
  | none => exact Nat.zero_le _
  | some q => exact (h q rfl).2.2
theorem msx_1 {s : MS} {a b v : Nat} (h : mok s) (e : msI s = -1) : msx s a b v = some (a, b, v) := by
  cases s with
  | none => rfl
  | some q => have := h q rfl; exact absurd e (nI_ne (by omega))
theorem msx_2 {s : MS} {a b v : Nat} (e : ¬ msI s = -1) (h : v < msV s) : msx s a b v = some (a, b, v) := by
  cases s with
  | none => rfl
  | some q => exact if_pos h
theorem msx_3 {s : MS} {a b v : Nat} (e : ¬ msI s = -1) (h : msV s ≤ v) : msx s a b v = s := by
  cases s with
  | none => exact absurd rfl e
  | some q => exact if_neg (Nat.not_lt.mpr h)
theorem c_pmissing (P : zPt) (t : Nat) (fp sn0 g0 sm0 : Int32) (D : Nat → Int32) (j n d : Nat) (f : Nat → Int32) (hj : j < 8) (h : nok n d f) (hP : P j = some (nI n, nI d, f)) : zCtr yX1_missing cX1_missing 8 (some .int) 8 3 18 [zr 1 0, zi (nI j)] (xFl P t fp sn0 g0 sm0 D) (fun r w => r = some (zi (msI (msa n f n))) ∧ ∃ sn g sm D, w = xFl P t fp sn g sm D) zNx := by
  refine z_start (by decide) [some (zr 1 0), some (zi (nI j)), none, none, none, none, none, none] rfl (fun _ => Nat.le_of_ble_eq_true rfl) (fun _ => rfl) (fun X F E hno hin => ?_)
  have h24 := h.n24
  have inner : ∀ (a : Nat), a < n → (∀ sn g sm D, Z X [some (zr 1 0), some (zi (nI j)), some (zr 22 0), some (zi (msI (msa n f (a + 1)))), some (zi (nI (msV (msa n f (a + 1))))), some (zi (nI (a + 1))), none, none] [] [zPl (zput (pR P) j (zr 22 0)) (zput P j none), xO t fp, zH, eFl 4 sn g sm, zAi 0 24 D, zH, zH, zH, zH, zH, zH, zH, zH, zH, zH, zH, zH, zH, zH, zH, zH, zH, zO 5 [zi (nI n), zi (nI d), zr 23 0], zAi 0 24 f] 1 6 14) →
      ∀ (m b : Nat) (sn g sm : Int32) (D : Nat → Int32), n + 1 - b < m → a < b → b ≤ n → Z X [some (zr 1 0), some (zi (nI j)), some (zr 22 0), some (zi (msI (msr n f a (msa n f a) b))), some (zi (nI (msV (msr n f a (msa n f a) b)))), some (zi (nI a)), some (zi (nI b)), none] [] [zPl (zput (pR P) j (zr 22 0)) (zput P j none), xO t fp, zH, eFl 4 sn g sm, zAi 0 24 D, zH, zH, zH, zH, zH, zH, zH, zH, zH, zH, zH, zH, zH, zH, zH, zH, zH, zO 5 [zi (nI n), zi (nI d), zr 23 0], zAi 0 24 f] 1 6 29 := by
    intro a ha kk m
    induction m with
    | zero => intro b sn g sm D hm; omega
    | succ m ih =>
      intro b sn g sm D hm hab hb
      have hok := msr_ok (f := f) (a := a) h24 (by omega) (msa_ok (f := f) h24 a (by omega)) b (by omega)
      have hvl := msV_le hok
      have hcb := cpr_bd (n := n) (jn f a b) h24
      refine z_iload F dX1_missing_29 rfl ?_
      refine z_aload_n F dX1_missing_31 rfl ?_
      refine z_getN F zC5 (f := 0) rfl (Nat.le_of_ble_eq_true rfl) q245 rfl dX1_missing_32 ?_
      refine z_icmp_geN F (by omega) (by omega) (tgt := 112) dX1_missing_35 (by decide) (fun c_35 => ?_) (fun c_35 => ?_)
      · have eb : b = n := by omega
        subst eb
        refine z_iincN F 1 dX1_missing_112 rfl rfl ?_
        refine z_leq (L' := [_, _, _, _, _, _, _, _]) rfl ?_
        refine z_goto F (tgt := 14) dX1_missing_115 (by decide) ?_
        refine z_loc _ ?_ (kk sn g sm D)
        exact ⟨rfl, rfl, rfl, rfl, rfl, rfl, trivial⟩
      · refine z_aload_n F dX1_missing_38 rfl ?_
        refine z_iload F dX1_missing_39 rfl ?_
        refine z_iload F dX1_missing_41 rfl ?_
        refine z_callV F (c_has (nI n) (nI d) f a b (by omega) (by omega)) 2 rfl (lw_V q524 q508 q509 q116 q510) (by decide +kernel) ⟨Nat.le_of_ble_eq_true rfl, Nat.le_of_ble_eq_true rfl⟩ ⟨by omega, by omega⟩ [0, 22, 23] 24 ⟨rfl, rfl, rfl, ⟨Or.inl rfl, Or.inr rfl, Or.inr rfl, trivial⟩⟩ (fun h => nomatch h) (Nat.le_of_ble_eq_true rfl) ⟨⟨Or.inr (by first | exact ⟨rfl, pR_B _ (by decide)⟩ | exact ⟨rfl, uR_B (by decide) (by decide)⟩), Or.inr rfl, Or.inr trivial, Or.inr rfl, Or.inr trivial, Or.inr trivial, Or.inr trivial, Or.inr trivial, Or.inr trivial, Or.inr trivial, Or.inr trivial, Or.inr trivial, Or.inr trivial, Or.inr trivial, Or.inr trivial, Or.inr trivial, Or.inr trivial, Or.inr trivial, Or.inr trivial, Or.inr trivial, Or.inr trivial, Or.inr trivial, Or.inl rfl, Or.inl rfl, trivial⟩, rfl, rfl, rfl, Nat.le_of_ble_eq_true rfl⟩ rfl zC5 rfl rfl dX1_missing_43 (fun r_43 w_43 hp => ?_) (fun _ _ h => h.elim)
        obtain ⟨rfl, rfl⟩ := hp
        refine z_weq (w' := [zPl _ _, zO _ [zr _ _, zr _ _, zr _ _, zr _ _, zr _ _, zi _, zi _, zr _ _, zr _ _], zH, zO _ [zr _ _, zi _, zi _, zi _], zAi 0 24 _, zH, zH, zH, zH, zH, zH, zH, zH, zH, zH, zH, zH, zH, zH, zH, zH, zH, zO _ [zi _, zi _, zr _ _], zAi 0 24 _]) rfl ?_
        refine z_seq (S' := zi _ :: _) rfl ?_
        refine z_if_eqB F (tgt := 52) dX1_missing_46 (by decide) (fun c_46 => ?_) (fun c_46 => ?_)
        · have hba : bt (f b) a = false := by rw [← h.sym ha (by omega)]; exact c_46
          refine z_aload_n F dX1_missing_52 rfl ?_
          refine z_iload F dX1_missing_53 rfl ?_
          refine z_iload F dX1_missing_55 rfl ?_
          refine z_callV F (c_setj (nI n) (nI d) f a b (by omega) (by omega)) 2 rfl (lw_V q516 q418 q419 q116 q420) (by decide +kernel) ⟨Nat.le_of_ble_eq_true rfl, Nat.le_of_ble_eq_true rfl⟩ ⟨by omega, by omega⟩ [0, 22, 23] 24 ⟨rfl, rfl, rfl, ⟨Or.inl rfl, Or.inr rfl, Or.inr rfl, trivial⟩⟩ (fun h => nomatch h) (Nat.le_of_ble_eq_true rfl) ⟨⟨Or.inr (by first | exact ⟨rfl, pR_B _ (by decide)⟩ | exact ⟨rfl, uR_B (by decide) (by decide)⟩), Or.inr rfl, Or.inr trivial, Or.inr rfl, Or.inr trivial, Or.inr trivial, Or.inr trivial, Or.inr trivial, Or.inr trivial, Or.inr trivial, Or.inr trivial, Or.inr trivial, Or.inr trivial, Or.inr trivial, Or.inr trivial, Or.inr trivial, Or.inr trivial, Or.inr trivial, Or.inr trivial, Or.inr trivial, Or.inr trivial, Or.inr trivial, Or.inl rfl, Or.inl rfl, trivial⟩, rfl, rfl, rfl, Nat.le_of_ble_eq_true rfl⟩ rfl zC5 rfl rfl dX1_missing_57 (fun r_57 w_57 hp => ?_) (fun _ _ h => h.elim)
          obtain ⟨rfl, rfl⟩ := hp
          refine z_weq (w' := [zPl _ _, zO _ [zr _ _, zr _ _, zr _ _, zr _ _, zr _ _, zi _, zi _, zr _ _, zr _ _], zH, zO _ [zr _ _, zi _, zi _, zi _], zAi 0 24 _, zH, zH, zH, zH, zH, zH, zH, zH, zH, zH, zH, zH, zH, zH, zH, zH, zH, zO _ [zi _, zi _, zr _ _], zAi 0 24 _]) rfl ?_
          refine z_seq (S' := []) rfl ?_
          refine z_aload_n F dX1_missing_60 rfl ?_
          refine z_get F zC1 (f := 2) rfl (Nat.le_of_ble_eq_true rfl) q316 rfl dX1_missing_61 ?_
          refine z_aload_n F dX1_missing_64 rfl ?_
          refine z_callV F (c_price n (nI d) (jn f a b) _ _ _ _ h24) 1 rfl (lw_V q862 q863 q864 q110 q865) (by decide +kernel) ⟨Nat.le_of_ble_eq_true rfl, Nat.le_of_ble_eq_true rfl⟩ ⟨by omega, by omega⟩ [0, 3, 4, 22, 23] 24 ⟨rfl, rfl, rfl, ⟨Or.inl rfl, Or.inr rfl, Or.inr rfl, Or.inr rfl, Or.inr rfl, trivial⟩⟩ (fun h => nomatch h) (Nat.le_of_ble_eq_true rfl) ⟨⟨Or.inr (by first | exact ⟨rfl, pR_B _ (by decide)⟩ | exact ⟨rfl, uR_B (by decide) (by decide)⟩), Or.inr rfl, Or.inr trivial, Or.inl rfl, Or.inl rfl, Or.inr trivial, Or.inr trivial, Or.inr trivial, Or.inr trivial, Or.inr trivial, Or.inr trivial, Or.inr trivial, Or.inr trivial, Or.inr trivial, Or.inr trivial, Or.inr trivial, Or.inr trivial, Or.inr trivial, Or.inr trivial, Or.inr trivial, Or.inr trivial, Or.inr trivial, Or.inl rfl, Or.inl rfl, trivial⟩, rfl, rfl, rfl, Nat.le_of_ble_eq_true rfl⟩ rfl zC2 rfl rfl dX1_missing_65 (fun r_65 w_65 hp => ?_) (fun _ _ h => h.elim)
          obtain ⟨rfl, sn1, g1', sm1, D1, rfl⟩ := hp
          refine z_weq (w' := [zPl _ _, zO _ [zr _ _, zr _ _, zr _ _, zr _ _, zr _ _, zi _, zi _, zr _ _, zr _ _], zH, zO _ [zr _ _, zi _, zi _, zi _], zAi 0 24 _, zH, zH, zH, zH, zH, zH, zH, zH, zH, zH, zH, zH, zH, zH, zH, zH, zH, zO _ [zi _, zi _, zr _ _], zAi 0 24 _]) rfl ?_
          refine z_seq (S' := zi _ :: _) rfl ?_
          refine z_istore F dX1_missing_68 (Nat.le_of_ble_eq_true rfl) ?_
          refine z_leq (L' := [_, _, _, _, _, _, _, _]) rfl ?_
          refine z_aload_n F dX1_missing_70 rfl ?_
          refine z_iload F dX1_missing_71 rfl ?_
          refine z_iload F dX1_missing_73 rfl ?_
          refine z_callV F (c_clear (nI n) (nI d) (jn f a b) a b (by omega) (by omega)) 2 rfl (lw_V q525 q526 q527 q116 q528) (by decide +kernel) ⟨Nat.le_of_ble_eq_true rfl, Nat.le_of_ble_eq_true rfl⟩ ⟨by omega, by omega⟩ [0, 22, 23] 24 ⟨rfl, rfl, rfl, ⟨Or.inl rfl, Or.inr rfl, Or.inr rfl, trivial⟩⟩ (fun h => nomatch h) (Nat.le_of_ble_eq_true rfl) ⟨⟨Or.inr (by first | exact ⟨rfl, pR_B _ (by decide)⟩ | exact ⟨rfl, uR_B (by decide) (by decide)⟩), Or.inr rfl, Or.inr trivial, Or.inr rfl, Or.inr trivial, Or.inr trivial, Or.inr trivial, Or.inr trivial, Or.inr trivial, Or.inr trivial, Or.inr trivial, Or.inr trivial, Or.inr trivial, Or.inr trivial, Or.inr trivial, Or.inr trivial, Or.inr trivial, Or.inr trivial, Or.inr trivial, Or.inr trivial, Or.inr trivial, Or.inr trivial, Or.inl rfl, Or.inl rfl, trivial⟩, rfl, rfl, rfl, Nat.le_of_ble_eq_true rfl⟩ rfl zC5 rfl rfl dX1_missing_75 (fun r_75 w_75 hp => ?_) (fun _ _ h => h.elim)
          obtain ⟨rfl, rfl⟩ := hp
          rw [pt_jn (by omega) (by omega) (by omega) c_46 hba]
          refine z_weq (w' := [zPl _ _, zO _ [zr _ _, zr _ _, zr _ _, zr _ _, zr _ _, zi _, zi _, zr _ _, zr _ _], zH, zO _ [zr _ _, zi _, zi _, zi _], zAi 0 24 _, zH, zH, zH, zH, zH, zH, zH, zH, zH, zH, zH, zH, zH, zH, zH, zH, zH, zO _ [zi _, zi _, zr _ _], zAi 0 24 _]) rfl ?_
          refine z_seq (S' := []) rfl ?_
          refine z_iload_n F dX1_missing_78 rfl ?_
          refine z_iconst F (-1) dX1_missing_79 rfl ?_
          refine z_icmp_eq F (tgt := 93) dX1_missing_80 (by decide) (fun c_80 => ?_) (fun c_80 => ?_)
          · refine z_bipush F (nI 32) dX1_missing_93 rfl ?_
            refine z_iload F dX1_missing_95 rfl ?_
            refine z_imulN F dX1_missing_97 ?_
            refine z_iload F dX1_missing_98 rfl ?_
            refine z_iaddN F dX1_missing_100 ?_
            refine z_istore_n F dX1_missing_101 (Nat.le_of_ble_eq_true rfl) ?_
            refine z_leq (L' := [_, _, _, _, _, _, _, _]) rfl ?_
            refine z_iload F dX1_missing_102 rfl ?_
            refine z_istore F dX1_missing_104 (Nat.le_of_ble_eq_true rfl) ?_
            refine z_leq (L' := [_, _, _, _, _, _, _, _]) rfl ?_
            refine z_iincN F 1 dX1_missing_106 rfl rfl ?_
            refine z_leq (L' := [_, _, _, _, _, _, _, _]) rfl ?_
            refine z_goto F (tgt := 29) dX1_missing_109 (by decide) ?_
            have hh := ih (b + 1) sn1 g1' sm1 D1 (by omega) (by omega) (by omega)
            rw [msr_y hab c_46, msx_1 hok c_80] at hh
            refine z_loc _ ?_ hh
            exact ⟨rfl, rfl, rfl, rfl, rfl, rfl, rfl, trivial⟩
          · refine z_iload F dX1_missing_83 rfl ?_
            refine z_iload F dX1_missing_85 rfl ?_
            refine z_icmp_ltN F (by omega) (by omega) (tgt := 93) dX1_missing_87 (by decide) (fun c_87 => ?_) (fun c_87 => ?_)
            · refine z_bipush F (nI 32) dX1_missing_93 rfl ?_
              refine z_iload F dX1_missing_95 rfl ?_
              refine z_imulN F dX1_missing_97 ?_
              refine z_iload F dX1_missing_98 rfl ?_
              refine z_iaddN F dX1_missing_100 ?_
              refine z_istore_n F dX1_missing_101 (Nat.le_of_ble_eq_true rfl) ?_
              refine z_leq (L' := [_, _, _, _, _, _, _, _]) rfl ?_
              refine z_iload F dX1_missing_102 rfl ?_
              refine z_istore F dX1_missing_104 (Nat.le_of_ble_eq_true rfl) ?_
              refine z_leq (L' := [_, _, _, _, _, _, _, _]) rfl ?_
              refine z_iincN F 1 dX1_missing_106 rfl rfl ?_
              refine z_leq (L' := [_, _, _, _, _, _, _, _]) rfl ?_
              refine z_goto F (tgt := 29) dX1_missing_109 (by decide) ?_
              have hh := ih (b + 1) sn1 g1' sm1 D1 (by omega) (by omega) (by omega)
              rw [msr_y hab c_46, msx_2 c_80 c_87] at hh
              refine z_loc _ ?_ hh
              exact ⟨rfl, rfl, rfl, rfl, rfl, rfl, rfl, trivial⟩
            · refine z_goto F (tgt := 106) dX1_missing_90 (by decide) ?_
              refine z_iincN F 1 dX1_missing_106 rfl rfl ?_
              refine z_leq (L' := [_, _, _, _, _, _, _, _]) rfl ?_
              refine z_goto F (tgt := 29) dX1_missing_109 (by decide) ?_
              have hh := ih (b + 1) sn1 g1' sm1 D1 (by omega) (by omega) (by omega)
              rw [msr_y hab c_46, msx_3 c_80 c_87] at hh
              refine z_loc _ ?_ hh
              exact ⟨rfl, rfl, rfl, rfl, rfl, rfl, rfl, trivial⟩
        · refine z_goto F (tgt := 106) dX1_missing_49 (by decide) ?_
          refine z_iincN F 1 dX1_missing_106 rfl rfl ?_
          refine z_leq (L' := [_, _, _, _, _, _, _, _]) rfl ?_
          refine z_goto F (tgt := 29) dX1_missing_109 (by decide) ?_
          have hh := ih (b + 1) sn g sm D (by omega) (by omega) (by omega)
          rw [msr_n c_46] at hh
          refine z_loc _ ?_ hh
          exact ⟨rfl, rfl, rfl, rfl, rfl, rfl, rfl, trivial⟩
  have outer : ∀ (m a : Nat) (sn g sm : Int32) (D : Nat → Int32), n - a < m → a ≤ n → Z X [some (zr 1 0), some (zi (nI j)), some (zr 22 0), some (zi (msI (msa n f a))), some (zi (nI (msV (msa n f a)))), some (zi (nI a)), none, none] [] [zPl (zput (pR P) j (zr 22 0)) (zput P j none), xO t fp, zH, eFl 4 sn g sm, zAi 0 24 D, zH, zH, zH, zH, zH, zH, zH, zH, zH, zH, zH, zH, zH, zH, zH, zH, zH, zO 5 [zi (nI n), zi (nI d), zr 23 0], zAi 0 24 f] 1 6 14 := by
    intro m
    induction m with
    | zero => intro a sn g sm D hm; omega
    | succ m ih =>
      intro a sn g sm D hm ha
      refine z_iload F dX1_missing_14 rfl ?_
      refine z_aload_n F dX1_missing_16 rfl ?_
      refine z_getN F zC5 (f := 0) rfl (Nat.le_of_ble_eq_true rfl) q245 rfl dX1_missing_17 ?_
      refine z_icmp_geN F (by omega) (by omega) (tgt := 118) dX1_missing_20 (by decide) (fun c_20 => ?_) (fun c_20 => ?_)
      · have ea : a = n := by omega
        subst ea
        refine z_iload_n F dX1_missing_118 rfl ?_
        refine z_loc [some _, some _, none, some _, some _, some _, none, none] ⟨rfl, rfl, rfl, rfl, rfl, trivial⟩ ?_
        refine z_unfocus F rfl j 22 23 22 hj zput_self rfl rfl (Nat.le_of_ble_eq_true rfl) (Nat.le_of_ble_eq_true rfl) (Nat.le_of_ble_eq_true rfl) (Nat.le_of_ble_eq_true rfl) [zO _ [zr _ _, zr _ _, zr _ _, zr _ _, zr _ _, zi _, zi _, zr _ _, zr _ _], zH, zO _ [zr _ _, zi _, zi _, zi _], zAi 0 24 _, zH, zH, zH, zH, zH, zH, zH, zH, zH, zH, zH, zH, zH, zH, zH, zH, zH] rfl ⟨rfl, trivial, rfl, trivial, trivial, trivial, trivial, trivial, trivial, trivial, trivial, trivial, trivial, trivial, trivial, trivial, trivial, trivial, trivial, trivial, trivial, trivial⟩ uOK rfl rfl ?_
        refine z_weq (w' := zPl (pR (zput P j (some _))) (zput P j (some _)) :: _) (congrArg (fun z => z :: _) uPl2) ?_
        exact z_iret F E rfl dX1_missing_119 (by omega) (by omega) (⟨rfl, sn, g, sm, D, by rw [zput_some hP]⟩)
      · refine z_iload F dX1_missing_23 rfl ?_
        refine z_iconst F (nI 1) dX1_missing_25 rfl ?_
        refine z_iaddN F dX1_missing_26 ?_
        refine z_istore F dX1_missing_27 (Nat.le_of_ble_eq_true rfl) ?_
        refine z_leq (L' := [_, _, _, _, _, _, _, _]) rfl ?_
        have hh := inner a (by omega) (fun sn g sm D => ih (a + 1) sn g sm D (by omega) (by omega)) _ (a + 1) sn g sm D (Nat.lt_succ_self _) (by omega) (by omega)
        rw [msr_lo _ (Nat.le_refl _)] at hh
        exact hh
  refine z_aload_n F dX1_missing_0 rfl ?_
  refine z_iload_n F dX1_missing_1 rfl ?_
  refine z_callV F (c_netAt_ok P t fp j hj hP) 1 rfl (lw_V q429 q431 qs0 q109 q432) (by decide +kernel) ⟨Nat.le_of_ble_eq_true rfl, Nat.le_of_ble_eq_true rfl⟩ ⟨by omega, by omega⟩ [0, 1, 2, 3, 4, 5, 6, 7, 8, 9, 10, 11, 12, 13, 14, 15, 16, 17, 18, 19, 20, 21] 22 ⟨rfl, rfl, rfl, ⟨Or.inr (congrArg some (zrnP rfl).symm), Or.inr rfl, Or.inl rfl, Or.inl rfl, Or.inl rfl, Or.inl rfl, Or.inl rfl, Or.inl rfl, Or.inl rfl, Or.inl rfl, Or.inl rfl, Or.inl rfl, Or.inl rfl, Or.inl rfl, Or.inl rfl, Or.inl rfl, Or.inl rfl, Or.inl rfl, Or.inl rfl, Or.inl rfl, Or.inl rfl, Or.inl rfl, trivial⟩⟩ (fun _ => rfl) (Nat.le_of_ble_eq_true rfl) ⟨⟨Or.inl rfl, Or.inl rfl, Or.inr trivial, Or.inr rfl, Or.inr trivial, Or.inr trivial, Or.inr trivial, Or.inr trivial, Or.inr trivial, Or.inr trivial, Or.inr trivial, Or.inr trivial, Or.inr trivial, Or.inr trivial, Or.inr trivial, Or.inr trivial, Or.inr trivial, Or.inr trivial, Or.inr trivial, Or.inr trivial, Or.inr trivial, Or.inr trivial, trivial⟩, rfl, rfl, rfl, Nat.le_of_ble_eq_true rfl⟩ rfl zC1 rfl rfl dX1_missing_2 (fun r_2 w_2 hp => ?_) (fun _ _ h => h.elim)
  obtain ⟨rfl, rfl⟩ := hp
  refine z_weq (w' := zPl (pR _) _ :: _) (congrArg (fun z => z :: _) (zrnP rfl)) ?_
  refine z_weq (w' := [zPl _ _, zO _ [zr _ _, zr _ _, zr _ _, zr _ _, zr _ _, zi _, zi _, zr _ _, zr _ _], zH, zO _ [zr _ _, zi _, zi _, zi _], zAi 0 24 _, zH, zH, zH, zH, zH, zH, zH, zH, zH, zH, zH, zH, zH, zH, zH, zH, zH]) rfl ?_
  refine z_seq (S' := zr _ _ :: _) rfl ?_
  refine z_astore_n F dX1_missing_5 (Nat.le_of_ble_eq_true rfl) ?_
  refine z_leq (L' := [_, _, _, _, _, _, _, _]) rfl ?_
  refine z_foc F j hj hP (N := 22) (M := 23) (L' := [_, _, some (zr 22 0), _, _, _, _, _]) (S' := []) rfl rfl (Nat.le_of_ble_eq_true rfl) ⟨rfl, trivial, rfl, trivial, trivial, trivial, trivial, trivial, trivial, trivial, trivial, trivial, trivial, trivial, trivial, trivial, trivial, trivial, trivial, trivial, trivial, trivial⟩ ⟨Or.inl rfl, Or.inl rfl, Or.inr ⟨rfl, rfl⟩, Or.inl rfl, Or.inl rfl, Or.inl rfl, Or.inl rfl, Or.inl rfl, trivial⟩ rfl trivial rfl ?_
  refine z_weq (w' := [zPl _ _, zO _ [zr _ _, zr _ _, zr _ _, zr _ _, zr _ _, zi _, zi _, zr _ _, zr _ _], zH, zO _ [zr _ _, zi _, zi _, zi _], zAi 0 24 _, zH, zH, zH, zH, zH, zH, zH, zH, zH, zH, zH, zH, zH, zH, zH, zH, zH, zO _ [zi _, zi _, zr _ _], zAi 0 24 _]) rfl ?_
  refine z_iconst F (-1) dX1_missing_6 rfl ?_
  refine z_istore_n F dX1_missing_7 (Nat.le_of_ble_eq_true rfl) ?_
  refine z_leq (L' := [_, _, _, _, _, _, _, _]) rfl ?_
  refine z_iconst F (nI 0) dX1_missing_8 rfl ?_
  refine z_istore F dX1_missing_9 (Nat.le_of_ble_eq_true rfl) ?_
  refine z_leq (L' := [_, _, _, _, _, _, _, _]) rfl ?_
  refine z_iconst F (nI 0) dX1_missing_11 rfl ?_
  refine z_istore F dX1_missing_12 (Nat.le_of_ble_eq_true rfl) ?_
  refine z_leq (L' := [_, _, _, _, _, _, _, _]) rfl ?_
  exact outer _ 0 _ _ _ _ (Nat.lt_succ_self _) (by omega)
theorem c_mmissing_ok (F0 : Nat → Int32) (G : Nat → Int64) (A : Nat → Nat → Int32) (B : Nat → Nat → Int64) (j n d : Nat) (f : Nat → Int32) (hj : j < 8) (h : nok n d f) (hs : Slt A j n (nI d) f) :
    zCtr yX6_missing cX6_missing 7 (some .int) 3 0 0 [zr 1 0, zi (nI j)] [zH, zG F0 G A B] (fun r w => r = some (zi (msI (msa n f n))) ∧ ∃ F' A', w = [zH, zG F' G A' B] ∧ F' 0 = nI 0 ∧ frm [0, 4, 5, 24, 25] F0 F' ∧ frm [6, 23] A A') zNx := by
  refine z_start (by decide) [some (zr 1 0), some (zi (nI j)), none, none, none, none, none] rfl (fun _ => Nat.le_of_ble_eq_true rfl) (fun _ => rfl) (fun X F E hno hin => ?_)
  have h1 := h.n1
  have h24 := h.n24
  have inner : ∀ (a : Nat), a < n → (∀ F1 A1, F1 0 = nI 0 → F1 4 = nI n → frm [0, 4, 5, 24, 25] F0 F1 → frm [6, 23] A A1 → (∀ k, k < 24 → A1 6 k = f k) → Z X [some (zr 1 0), some (zi (nI j)), some (zi (msI (msa n f (a + 1)))), some (zi (nI (msV (msa n f (a + 1))))), some (zi (nI (a + 1))), none, none] [] [zH, zG F1 G A1 B] 0 0 17) →
      ∀ (m b : Nat) (F1 : Nat → Int32) (A1 : Nat → Nat → Int32), n + 1 - b < m → a < b → b ≤ n → F1 0 = nI 0 → F1 4 = nI n → frm [0, 4, 5, 24, 25] F0 F1 → frm [6, 23] A A1 → (∀ k, k < 24 → A1 6 k = f k) → Z X [some (zr 1 0), some (zi (nI j)), some (zi (msI (msr n f a (msa n f a) b))), some (zi (nI (msV (msr n f a (msa n f a) b)))), some (zi (nI a)), some (zi (nI b)), none] [] [zH, zG F1 G A1 B] 0 0 32 := by
    intro a ha kk m
    induction m with
    | zero => intro b F1 A1 hm; omega
    | succ m ih =>
      intro b F1 A1 hm hab hb g0 g4 hF hA hf1
      have hok := msr_ok (f := f) (a := a) h24 (by omega) (msa_ok (f := f) h24 a (by omega)) b (by omega)
      have hvl := msV_le hok
      have hcb := cpr_bd (n := n) (jn f a b) h24
      have hpe := mpr_eq (f := jn f a b) h24 (jn_sym (by omega) (by omega) (fun x y hx hy => h.sym hx hy))
      refine z_iload F dX6_missing_32 rfl ?_
      refine z_aload_n F dX6_missing_34 rfl ?_
      refine z_mi F rfl 4 rfl (Nat.le_of_ble_eq_true rfl) rfl q1484 dX6_missing_35 ?_
      refine z_ieq (g4) ?_
      refine z_icmp_geN F (by omega) (by omega) (tgt := 109) dX6_missing_38 (by decide) (fun c_38 => ?_) (fun c_38 => ?_)
      · have eb : b = n := by omega
        subst eb
        refine z_iincN F 1 dX6_missing_109 rfl rfl ?_
        refine z_leq (L' := [_, _, _, _, _, _, _]) rfl ?_
        refine z_goto F (tgt := 17) dX6_missing_112 (by decide) ?_
        refine z_loc _ ?_ (kk F1 A1 g0 g4 hF hA hf1)
        exact ⟨rfl, rfl, rfl, rfl, rfl, trivial⟩
      · refine z_aload_n F dX6_missing_41 rfl ?_
        refine z_iload F dX6_missing_42 rfl ?_
        refine z_iload F dX6_missing_44 rfl ?_
        refine z_callV F (c_isJoined _ _ _ _ a b (by omega) (by omega)) 2 rfl (lw_V q1748 q1750 qs46 q117 q1751) (by decide +kernel) ⟨Nat.le_of_ble_eq_true rfl, Nat.le_of_ble_eq_true rfl⟩ ⟨by omega, by omega⟩ [0, 1] 2 ⟨rfl, rfl, rfl, ⟨Or.inl rfl, Or.inr rfl, trivial⟩⟩ (fun h => nomatch h) (Nat.le_of_ble_eq_true rfl) ⟨⟨Or.inr trivial, Or.inl rfl, trivial⟩, rfl, rfl, rfl, Nat.le_of_ble_eq_true rfl⟩ rfl zC6 (zat_G0 rfl) rfl dX6_missing_46 (fun r_46 w_46 hp => ?_) (fun _ _ h => h.elim)
        obtain ⟨rfl, rfl⟩ := hp
        rw [hf1 a (by omega)]
        refine z_weq (w' := [zH, zG _ _ _ _]) rfl ?_
        refine z_seq (S' := zi _ :: _) rfl ?_
        refine z_if_eqB F (tgt := 55) dX6_missing_49 (by decide) (fun c_49 => ?_) (fun c_49 => ?_)
        · have hba : bt (f b) a = false := by rw [← h.sym ha (by omega)]; exact c_49
          have hfin : ∀ A2, frm [23] (fA A1 6 (jn (A1 6) a b)) A2 → frm [6, 23] A (fA A2 6 (pt (A2 6) a b)) ∧ ∀ k, k < 24 → fA A2 6 (pt (A2 6) a b) 6 k = f k := fun A2 a2 => by
            refine ⟨((hA.tr (frm_fA (l := [6]) frm.rf (by decide)) (l2 := [6, 23]) (by decide) (by decide)).tr a2 (l2 := [6, 23]) (by decide) (by decide)).tr (frm_fA (l := [6]) frm.rf (by decide)) (by decide) (by decide), fun k hk => ?_⟩
            rw [fA_at, a2.at 6 rfl, fA_at, pt_cong (fun k hk => jn_cong hf1 (show a < 24 by omega) (show b < 24 by omega) hk) (by omega) (by omega) hk, pt_jn (by omega) (by omega) (by omega) c_49 hba]
          refine z_aload_n F dX6_missing_55 rfl ?_
          refine z_iload F dX6_missing_56 rfl ?_
          refine z_iload F dX6_missing_58 rfl ?_
          refine z_callV F (c_joins _ _ _ _ a b (by omega) (by omega)) 2 rfl (lw_V q1755 q1757 qs47 q117 q1758) (by decide +kernel) ⟨Nat.le_of_ble_eq_true rfl, Nat.le_of_ble_eq_true rfl⟩ ⟨by omega, by omega⟩ [0, 1] 2 ⟨rfl, rfl, rfl, ⟨Or.inl rfl, Or.inr rfl, trivial⟩⟩ (fun h => nomatch h) (Nat.le_of_ble_eq_true rfl) ⟨⟨Or.inr trivial, Or.inl rfl, trivial⟩, rfl, rfl, rfl, Nat.le_of_ble_eq_true rfl⟩ rfl zC6 (zat_G0 rfl) rfl dX6_missing_60 (fun r_60 w_60 hp => ?_) (fun _ _ h => h.elim)
          obtain ⟨rfl, rfl⟩ := hp
          refine z_weq (w' := [zH, zG _ _ _ _]) rfl ?_
          refine z_seq (S' := []) rfl ?_
          refine z_aload_n F dX6_missing_63 rfl ?_
          refine z_callV F (c_mprice F1 _ _ _ n (jn f a b) h24 g4 (fun k hk => by rw [fA_at]; exact jn_cong hf1 (by omega) (by omega) (by omega))) 0 rfl (lw_V q1916 q1918 qs71 q117 q1919) (by decide +kernel) ⟨Nat.le_of_ble_eq_true rfl, Nat.le_of_ble_eq_true rfl⟩ ⟨by omega, by omega⟩ [0, 1] 2 ⟨rfl, rfl, rfl, ⟨Or.inl rfl, Or.inr rfl, trivial⟩⟩ (fun h => nomatch h) (Nat.le_of_ble_eq_true rfl) ⟨⟨Or.inr trivial, Or.inl rfl, trivial⟩, rfl, rfl, rfl, Nat.le_of_ble_eq_true rfl⟩ rfl zC6 (zat_G0 rfl) rfl dX6_missing_64 (fun r_64 w_64 hp => ?_) (fun _ _ h => h.elim)
          obtain ⟨rfl, F2, A2, rfl, a1, a2⟩ := hp
          rw [hpe]
          refine z_weq (w' := [zH, zG _ _ _ _]) rfl ?_
          refine z_seq (S' := zi _ :: _) rfl ?_
          refine z_istore F dX6_missing_67 (Nat.le_of_ble_eq_true rfl) ?_
          refine z_leq (L' := [_, _, _, _, _, _, _]) rfl ?_
          refine z_aload_n F dX6_missing_69 rfl ?_
          refine z_iload F dX6_missing_70 rfl ?_
          refine z_iload F dX6_missing_72 rfl ?_
          refine z_callV F (c_parts _ _ _ _ a b (by omega) (by omega)) 2 rfl (lw_V q1763 q1765 qs48 q117 q1766) (by decide +kernel) ⟨Nat.le_of_ble_eq_true rfl, Nat.le_of_ble_eq_true rfl⟩ ⟨by omega, by omega⟩ [0, 1] 2 ⟨rfl, rfl, rfl, ⟨Or.inl rfl, Or.inr rfl, trivial⟩⟩ (fun h => nomatch h) (Nat.le_of_ble_eq_true rfl) ⟨⟨Or.inr trivial, Or.inl rfl, trivial⟩, rfl, rfl, rfl, Nat.le_of_ble_eq_true rfl⟩ rfl zC6 (zat_G0 rfl) rfl dX6_missing_74 (fun r_74 w_74 hp => ?_) (fun _ _ h => h.elim)
          obtain ⟨rfl, rfl⟩ := hp
          refine z_weq (w' := [zH, zG _ _ _ _]) rfl ?_
          refine z_seq (S' := []) rfl ?_
          refine z_iload_n F dX6_missing_77 rfl ?_
          refine z_iconst F (-1) dX6_missing_78 rfl ?_
          refine z_icmp_eq F (tgt := 91) dX6_missing_79 (by decide) (fun c_79 => ?_) (fun c_79 => ?_)
          · refine z_bipush F (nI 32) dX6_missing_91 rfl ?_
            refine z_iload F dX6_missing_93 rfl ?_
            refine z_imulN F dX6_missing_95 ?_
            refine z_iload F dX6_missing_96 rfl ?_
            refine z_iaddN F dX6_missing_98 ?_
            refine z_istore_n F dX6_missing_99 (Nat.le_of_ble_eq_true rfl) ?_
            refine z_leq (L' := [_, _, _, _, _, _, _]) rfl ?_
            refine z_iload F dX6_missing_100 rfl ?_
            refine z_istore_n F dX6_missing_102 (Nat.le_of_ble_eq_true rfl) ?_
            refine z_leq (L' := [_, _, _, _, _, _, _]) rfl ?_
            refine z_iincN F 1 dX6_missing_103 rfl rfl ?_
            refine z_leq (L' := [_, _, _, _, _, _, _]) rfl ?_
            refine z_goto F (tgt := 32) dX6_missing_106 (by decide) ?_
            have hh := ih (b + 1) F2 _ (by omega) (by omega) (by omega) ((a1.at 0 rfl).trans g0) ((a1.at 4 rfl).trans g4) (hF.tr a1 (by decide) (by decide)) (hfin A2 a2).1 (hfin A2 a2).2
            rw [msr_y hab c_49, msx_1 hok c_79] at hh
            refine z_loc _ ?_ hh
            exact ⟨rfl, rfl, rfl, rfl, rfl, rfl, trivial⟩
          · refine z_iload F dX6_missing_82 rfl ?_
            refine z_iload_n F dX6_missing_84 rfl ?_
            refine z_icmp_ltN F (by omega) (by omega) (tgt := 91) dX6_missing_85 (by decide) (fun c_85 => ?_) (fun c_85 => ?_)
            · refine z_bipush F (nI 32) dX6_missing_91 rfl ?_
              refine z_iload F dX6_missing_93 rfl ?_
              refine z_imulN F dX6_missing_95 ?_
              refine z_iload F dX6_missing_96 rfl ?_
              refine z_iaddN F dX6_missing_98 ?_
              refine z_istore_n F dX6_missing_99 (Nat.le_of_ble_eq_true rfl) ?_
              refine z_leq (L' := [_, _, _, _, _, _, _]) rfl ?_
              refine z_iload F dX6_missing_100 rfl ?_
              refine z_istore_n F dX6_missing_102 (Nat.le_of_ble_eq_true rfl) ?_
              refine z_leq (L' := [_, _, _, _, _, _, _]) rfl ?_
              refine z_iincN F 1 dX6_missing_103 rfl rfl ?_
              refine z_leq (L' := [_, _, _, _, _, _, _]) rfl ?_
              refine z_goto F (tgt := 32) dX6_missing_106 (by decide) ?_
              have hh := ih (b + 1) F2 _ (by omega) (by omega) (by omega) ((a1.at 0 rfl).trans g0) ((a1.at 4 rfl).trans g4) (hF.tr a1 (by decide) (by decide)) (hfin A2 a2).1 (hfin A2 a2).2
              rw [msr_y hab c_49, msx_2 c_79 c_85] at hh
              refine z_loc _ ?_ hh
              exact ⟨rfl, rfl, rfl, rfl, rfl, rfl, trivial⟩
            · refine z_goto F (tgt := 103) dX6_missing_88 (by decide) ?_
              refine z_iincN F 1 dX6_missing_103 rfl rfl ?_
              refine z_leq (L' := [_, _, _, _, _, _, _]) rfl ?_
              refine z_goto F (tgt := 32) dX6_missing_106 (by decide) ?_
              have hh := ih (b + 1) F2 _ (by omega) (by omega) (by omega) ((a1.at 0 rfl).trans g0) ((a1.at 4 rfl).trans g4) (hF.tr a1 (by decide) (by decide)) (hfin A2 a2).1 (hfin A2 a2).2
              rw [msr_y hab c_49, msx_3 c_79 c_85] at hh
              refine z_loc _ ?_ hh
              exact ⟨rfl, rfl, rfl, rfl, rfl, rfl, trivial⟩
        · refine z_goto F (tgt := 103) dX6_missing_52 (by decide) ?_
          refine z_iincN F 1 dX6_missing_103 rfl rfl ?_
          refine z_leq (L' := [_, _, _, _, _, _, _]) rfl ?_
          refine z_goto F (tgt := 32) dX6_missing_106 (by decide) ?_
          have hh := ih (b + 1) F1 A1 (by omega) (by omega) (by omega) g0 g4 hF hA hf1
          rw [msr_n c_49] at hh
          refine z_loc _ ?_ hh
          exact ⟨rfl, rfl, rfl, rfl, rfl, rfl, trivial⟩
  have outer : ∀ (m a : Nat) (F1 : Nat → Int32) (A1 : Nat → Nat → Int32), n - a < m → a ≤ n → F1 0 = nI 0 → F1 4 = nI n → frm [0, 4, 5, 24, 25] F0 F1 → frm [6, 23] A A1 → (∀ k, k < 24 → A1 6 k = f k) → Z X [some (zr 1 0), some (zi (nI j)), some (zi (msI (msa n f a))), some (zi (nI (msV (msa n f a)))), some (zi (nI a)), none, none] [] [zH, zG F1 G A1 B] 0 0 17 := by
    intro m
    induction m with
    | zero => intro a F1 A1 hm; omega
    | succ m ih =>
      intro a F1 A1 hm ha g0 g4 hF hA hf1
      refine z_iload F dX6_missing_17 rfl ?_
      refine z_aload_n F dX6_missing_19 rfl ?_
      refine z_mi F rfl 4 rfl (Nat.le_of_ble_eq_true rfl) rfl q1484 dX6_missing_20 ?_
      refine z_ieq (g4) ?_
      refine z_icmp_geN F (by omega) (by omega) (tgt := 115) dX6_missing_23 (by decide) (fun c_23 => ?_) (fun c_23 => ?_)
      · have ea : a = n := by omega
        subst ea
        refine z_iload_n F dX6_missing_115 rfl ?_
        exact z_iret F E rfl dX6_missing_116 (by omega) (by omega) (⟨rfl, F1, A1, rfl, g0, hF, hA⟩)
      · refine z_iload F dX6_missing_26 rfl ?_
        refine z_iconst F (nI 1) dX6_missing_28 rfl ?_
        refine z_iaddN F dX6_missing_29 ?_
        refine z_istore F dX6_missing_30 (Nat.le_of_ble_eq_true rfl) ?_
        refine z_leq (L' := [_, _, _, _, _, _, _]) rfl ?_
        have hh := inner a (by omega) (fun F1 A1 q0 q4 qF qA qf => ih (a + 1) F1 A1 (by omega) (by omega) q0 q4 qF qA qf) _ (a + 1) F1 A1 (Nat.lt_succ_self _) (by omega) (by omega) g0 g4 hF hA hf1
        rw [msr_lo _ (Nat.le_refl _)] at hh
        exact hh
  refine z_aload_n F dX6_missing_0 rfl ?_
  refine z_iload_n F dX6_missing_1 rfl ?_
  refine z_callV F (c_lays_ok _ _ _ _ j n (nI d) f hj (by omega) h24 hs) 1 rfl (lw_V q1732 q1734 qs42 q117 q1735) (by decide +kernel) ⟨Nat.le_of_ble_eq_true rfl, Nat.le_of_ble_eq_true rfl⟩ ⟨by omega, by omega⟩ [0, 1] 2 ⟨rfl, rfl, rfl, ⟨Or.inl rfl, Or.inr rfl, trivial⟩⟩ (fun h => nomatch h) (Nat.le_of_ble_eq_true rfl) ⟨⟨Or.inr trivial, Or.inl rfl, trivial⟩, rfl, rfl, rfl, Nat.le_of_ble_eq_true rfl⟩ rfl zC6 (zat_G0 rfl) rfl dX6_missing_2 (fun r_2 w_2 hp => ?_) (fun _ _ h => h.elim)
  obtain ⟨rfl, F1, A1, rfl, f0, f1, f2, f3⟩ := hp
  refine z_weq (w' := [zH, zG _ _ _ _]) rfl ?_
  refine z_seq (S' := zi _ :: _) rfl ?_
  refine z_if_neB F (tgt := 10) dX6_missing_5 (by decide) (fun c_5 => ?_) (fun c_5 => ?_)
  · refine z_iconst F (-1) dX6_missing_10 rfl ?_
    refine z_istore_n F dX6_missing_11 (Nat.le_of_ble_eq_true rfl) ?_
    refine z_leq (L' := [_, _, _, _, _, _, _]) rfl ?_
    refine z_iconst F (nI 0) dX6_missing_12 rfl ?_
    refine z_istore_n F dX6_missing_13 (Nat.le_of_ble_eq_true rfl) ?_
    refine z_leq (L' := [_, _, _, _, _, _, _]) rfl ?_
    refine z_iconst F (nI 0) dX6_missing_14 rfl ?_
    refine z_istore F dX6_missing_15 (Nat.le_of_ble_eq_true rfl) ?_
    refine z_leq (L' := [_, _, _, _, _, _, _]) rfl ?_
    exact outer _ 0 F1 A1 (Nat.lt_succ_self _) (by omega) f0 f3.1 (f1.to (by decide)) (f2.to (by decide)) f3.2.2
  · cases c_5
end C60
