/-! floors: changing two places as long as that is shorter -/
section C9s
abbrev flS : Type := Nat × Option (Nat × Nat)
def flr (n : Nat) (f : Nat → Int32) (w : Nat) (p : Nat → Nat) (i : Nat) (st : flS) : Nat → flS
  | 0 => st
  | j + 1 => if i < j ∧ LN n f w (sw2 p i j) < (flr n f w p i st j).1 then (LN n f w (sw2 p i j), some (i, j)) else flr n f w p i st j
def fla (n : Nat) (f : Nat → Int32) (w : Nat) (p : Nat → Nat) : Nat → flS
  | 0 => (LN n f w p, none)
  | i + 1 => flr n f w p i (fla n f w p i) n
theorem flr_lo {n w i : Nat} {f : Nat → Int32} {p : Nat → Nat} {st : flS} : ∀ j, j ≤ i + 1 → flr n f w p i st j = st
  | 0, _ => rfl
  | j + 1, h => by rw [flr, if_neg (by omega), flr_lo j (by omega)]
def ftI (o : Option (Nat × Nat)) : Int32 := match o with
  | none => -1
  | some (i, _) => nI i
def sdI (o : Option (Nat × Nat)) : Int32 := match o with
  | none => -1
  | some (_, j) => nI j
def flI (n : Nat) (f : Nat → Int32) (w : Nat) (p : Nat → Nat) (st : flS) : Prop := st.1 ≤ LN n f w p ∧ (st.2 = none → st.1 = LN n f w p) ∧ ∀ i j, st.2 = some (i, j) → i < j ∧ j < n ∧ st.1 = LN n f w (sw2 p i j) ∧ st.1 < LN n f w p
theorem flr_I {n w i : Nat} {f : Nat → Int32} {p : Nat → Nat} {st : flS} (h : flI n f w p st) : ∀ j, j ≤ n → flI n f w p (flr n f w p i st j)
  | 0, _ => h
  | j + 1, hj => by
    have ih := flr_I (i := i) h j (by omega)
    rw [flr]
    by_cases q : i < j ∧ LN n f w (sw2 p i j) < (flr n f w p i st j).1
    · rw [if_pos q]
      have := ih.1
      exact ⟨by show LN n f w (sw2 p i j) ≤ _; omega, fun z => (by cases z), fun a b z => by cases z; exact ⟨q.1, by omega, rfl, by show LN n f w (sw2 p i j) < _; omega⟩⟩
    · rw [if_neg q]; exact ih
theorem fla_I {n w : Nat} {f : Nat → Int32} {p : Nat → Nat} : ∀ i, i ≤ n → flI n f w p (fla n f w p i)
  | 0, _ => ⟨Nat.le_refl _, fun _ => rfl, fun _ _ z => by cases z⟩
  | i + 1, hi => flr_I (fla_I i (by omega)) n (Nat.le_refl _)
def clF (n : Nat) (f : Nat → Int32) (w : Nat) : Nat → (Nat → Nat) → Nat → Nat
  | 0, p => p
  | m + 1, p => match (fla n f w p n).2 with
    | none => p
    | some (i, j) => clF n f w m (sw2 p i j)
theorem isP_sw {n i j : Nat} {p : Nat → Nat} (hp : isP n p) (hi : i < n) (hj : j < n) : isP n (sw2 p i j) := by
  have inj := hp.2
  refine ⟨fun k hk => ?_, fun k l hk hl e => ?_⟩
  · show (if k = j then p i else if k = i then p j else p k) < n
    split
    · exact hp.1 i hi
    · split
      · exact hp.1 j hj
      · exact hp.1 k hk
  · replace e : (if k = j then p i else if k = i then p j else p k) = (if l = j then p i else if l = i then p j else p l) := e
    by_cases a1 : k = j
    · rw [if_pos a1] at e
      by_cases b1_ : l = j
      · omega
      · rw [if_neg b1_] at e
        by_cases b2 : l = i
        · rw [if_pos b2] at e; have := inj i j hi hj e; omega
        · rw [if_neg b2] at e; have := inj i l hi hl e; omega
    · rw [if_neg a1] at e
      by_cases a2 : k = i
      · rw [if_pos a2] at e
        by_cases b1_ : l = j
        · rw [if_pos b1_] at e; have := inj j i hj hi e; omega
        · rw [if_neg b1_] at e
          by_cases b2 : l = i
          · omega
          · rw [if_neg b2] at e; have := inj j l hj hl e; omega
      · rw [if_neg a2] at e
        by_cases b1_ : l = j
        · rw [if_pos b1_] at e; have := inj k i hk hi e; omega
        · rw [if_neg b1_] at e
          by_cases b2 : l = i
          · rw [if_pos b2] at e; have := inj k j hk hj e; omega
          · rw [if_neg b2] at e; exact inj k l hk hl e
theorem sw_sw {i j : Nat} {p : Nat → Nat} (k : Nat) : sw2 (sw2 p i j) i j k = p k := by
  show (if k = j then (if i = j then p i else if i = i then p j else p i) else if k = i then (if j = j then p i else _) else (if k = j then p i else if k = i then p j else p k)) = p k
  by_cases a : k = j
  · rw [if_pos a]
    by_cases b : i = j
    · rw [if_pos b, a, b]
    · rw [if_neg b, if_pos rfl, a]
  · rw [if_neg a]
    by_cases b : k = i
    · rw [if_pos b, if_pos rfl, b]
    · rw [if_neg b, if_neg a, if_neg b]
theorem sw_putA {Pl : Nat → Int32} {n i j : Nat} {p : Nat → Nat} (h : ∀ k, k < n → Pl k = nI (p k)) (hi : i < n) (hj : j < n) : ∀ k, k < n → upd (upd Pl i (Pl j)) j (Pl i) k = nI (sw2 p i j k) := fun k hk => by
  show (if k = j then Pl i else if k = i then Pl j else Pl k) = nI (if k = j then p i else if k = i then p j else p k)
  by_cases e : k = j
  · rw [if_pos e, if_pos e]; exact h i hi
  · rw [if_neg e, if_neg e]
    by_cases e2 : k = i
    · rw [if_pos e2, if_pos e2]; exact h j hj
    · rw [if_neg e2, if_neg e2]; exact h k hk
theorem c_flEx (n i j : Nat) (v ls : Int32) (Pl : Nat → Int32) (hn : n ≤ 24) (hi : i < n) (hj : j < n) : zCtr yX12_exchange cX12_exchange 4 none 0 0 0 [zr 1 0, zi (nI i), zi (nI j)] [zH, eFo v ls, zH, zH, zH, zAi 0 n Pl, zH] (fun r w' => r = none ∧ w' = [zH, eFo v ls, zH, zH, zH, zAi 0 n (upd (upd Pl i (Pl j)) j (Pl i)), zH]) zNx := by
  refine z_start (by decide) [some (zr 1 0), some (zi (nI i)), some (zi (nI j)), none] rfl (fun _ => Nat.le_of_ble_eq_true rfl) (fun _ => rfl) (fun X F E hno hin => ?_)
  refine z_aload_n F dX12_exchange_0 rfl ?_
  refine z_get F zC12 (f := 3) rfl (Nat.le_of_ble_eq_true rfl) q1237 rfl dX12_exchange_1 ?_
  refine z_iload_n F dX12_exchange_4 rfl ?_
  refine z_ialdN F rfl (by omega) (by omega) rfl dX12_exchange_5 ?_
  refine z_istore_n F dX12_exchange_6 (Nat.le_of_ble_eq_true rfl) ?_
  refine z_leq (L' := [_, _, _, _]) rfl ?_
  refine z_aload_n F dX12_exchange_7 rfl ?_
  refine z_get F zC12 (f := 3) rfl (Nat.le_of_ble_eq_true rfl) q1237 rfl dX12_exchange_8 ?_
  refine z_iload_n F dX12_exchange_11 rfl ?_
  refine z_aload_n F dX12_exchange_12 rfl ?_
  refine z_get F zC12 (f := 3) rfl (Nat.le_of_ble_eq_true rfl) q1237 rfl dX12_exchange_13 ?_
  refine z_iload_n F dX12_exchange_16 rfl ?_
  refine z_ialdN F rfl (by omega) (by omega) rfl dX12_exchange_17 ?_
  refine z_iastN F rfl (by omega) (by omega) dX12_exchange_18 ?_
  refine z_weq (w' := [_, _, _, _, _, _, _]) rfl ?_
  refine z_aload_n F dX12_exchange_19 rfl ?_
  refine z_get F zC12 (f := 3) rfl (Nat.le_of_ble_eq_true rfl) q1237 rfl dX12_exchange_20 ?_
  refine z_iload_n F dX12_exchange_23 rfl ?_
  refine z_iload_n F dX12_exchange_24 rfl ?_
  refine z_iastN F rfl (by omega) (by omega) dX12_exchange_25 ?_
  refine z_weq (w' := [_, _, _, _, _, _, _]) rfl ?_
  exact z_vret F E rfl dX12_exchange_26 (by omega) (by omega) (⟨rfl, rfl⟩)
abbrev wDe (n w : Nat) (d ls : Int32) (m : Nat) (R Pl Bs : Nat → Int32) : List zE := [zH, eFo (nI w) ls, eNet 3 (nI n) d, zH, zAi 0 m R, zAi 0 n Pl, zAi 0 n Bs]
theorem c_flDesc (n w dd : Nat) (d : Int32) (f : Nat → Int32) (ls : Int32) (R Pl Bs : Nat → Int32) (h : nok n dd f) (hw : 1 ≤ w) (hw2 : w ≤ 24) (hR : R = rowA (prs n f) (fun _ => 0)) : zCtr yX12_descend cX12_descend 7 none 4 0 0 [zr 1 0] (wDe n w d ls (prs n f).length R Pl Bs) (fun r w' => r = none ∧ ∃ Pl' Bs', w' = wDe n w d (nI (LN n f w (clF n f w (LN n f w (fun i => i) + 1) (fun i => i)))) (prs n f).length R Pl' Bs' ∧ ∀ i, i < n → Bs' i = nI (clF n f w (LN n f w (fun i => i) + 1) (fun i => i) i)) zNx := by
  refine z_start (by decide) [some (zr 1 0), none, none, none, none, none, none] rfl (fun _ => Nat.le_of_ble_eq_true rfl) (fun _ => rfl) (fun X F E hno hin => ?_)
  have hn := h.n24
  have hn1 := h.n1
  have h96 := prs_96 h
  have hbd : ∀ p, isP n p → LN n f w p ≤ 4800 := fun p hp => by
    have := lnI_le (f := f) hw hn (fun k hk => hp.1 k hk) _ (Nat.le_refl _)
    unfold LN lnL
    omega
  have fin : ∀ (q : Nat → Nat) (Pl : Nat → Int32), (∀ i, i < n → Pl i = nI (q i)) → q = clF n f w (LN n f w (fun i => i) + 1) (fun i => i) → ∀ (m k : Nat) (Bs : Nat → Int32), n - k < m → k ≤ n → (∀ i, i < k → Bs i = nI (q i)) → Z X [some (zr 1 0), none, some (zi (nI k)), none, none, none, none] [] (wDe n w d (nI (LN n f w q)) (prs n f).length R Pl Bs) 0 0 161 := by
    intro q Pl hPl hq m
    induction m with
    | zero => intro k Bs hm; omega
    | succ m ih =>
      intro k Bs hm hk hB
      have t1 := fun z => hPl k z
      refine z_iload_n F dX12_descend_161 rfl ?_
      refine z_aload_n F dX12_descend_162 rfl ?_
      refine z_get F zC12 (f := 0) rfl (Nat.le_of_ble_eq_true rfl) q1234 rfl dX12_descend_163 ?_
      refine z_getN F zC5 (f := 0) rfl (Nat.le_of_ble_eq_true rfl) q238 rfl dX12_descend_166 ?_
      refine z_icmp_geN F (by omega) (by omega) (tgt := 190) dX12_descend_169 (by decide) (fun c_169 => ?_) (fun c_169 => ?_)
      · exact z_vret F E rfl dX12_descend_190 (by omega) (by omega) (⟨rfl, Pl, Bs, by rw [hq], fun i hi => by rw [← hq]; exact hB i (by omega)⟩)
      · have t1 := t1 (by omega)
        refine z_aload_n F dX12_descend_172 rfl ?_
        refine z_get F zC12 (f := 4) rfl (Nat.le_of_ble_eq_true rfl) q1238 rfl dX12_descend_173 ?_
        refine z_iload_n F dX12_descend_176 rfl ?_
        refine z_aload_n F dX12_descend_177 rfl ?_
        refine z_get F zC12 (f := 3) rfl (Nat.le_of_ble_eq_true rfl) q1237 rfl dX12_descend_178 ?_
        refine z_iload_n F dX12_descend_181 rfl ?_
        refine z_ialdN F rfl (by omega) (by omega) rfl dX12_descend_182 ?_
        refine z_iastN F rfl (by omega) (by omega) dX12_descend_183 ?_
        refine z_weq (w' := [_, _, _, _, _, _, _]) rfl ?_
        refine z_iincN F 1 dX12_descend_184 rfl rfl ?_
        refine z_leq (L' := [_, _, _, _, _, _, _]) rfl ?_
        refine z_goto F (tgt := 161) dX12_descend_187 (by decide) ?_
        exact ih (k + 1) _ (by omega) (by omega) (fun i hi => by
          show (if i = k then _ else Bs i) = _
          by_cases e : i = k
          · rw [if_pos e, e]; exact t1
          · rw [if_neg e]; exact hB i (by omega))
  have inner : ∀ (p : Nat → Nat), isP n p → ∀ (i : Nat), i < n → (∀ Pl, (∀ k, k < n → Pl k = nI (p k)) → Z X [some (zr 1 0), some (zi (bI true)), some (zi (ftI (fla n f w p (i + 1)).2)), some (zi (sdI (fla n f w p (i + 1)).2)), some (zi (nI (i + 1))), none, none] [] (wDe n w d (nI (fla n f w p (i + 1)).1) (prs n f).length R Pl Bs) 0 0 47) →
      ∀ (m j : Nat) (Pl : Nat → Int32), n - j < m → i < j → j ≤ n → (∀ k, k < n → Pl k = nI (p k)) → Z X [some (zr 1 0), some (zi (bI true)), some (zi (ftI (flr n f w p i (fla n f w p i) j).2)), some (zi (sdI (flr n f w p i (fla n f w p i) j).2)), some (zi (nI i)), some (zi (nI j)), none] [] (wDe n w d (nI (flr n f w p i (fla n f w p i) j).1) (prs n f).length R Pl Bs) 0 0 65 := by
    intro p hp0 i hi kk m
    have hs0 := fla_I (n := n) (f := f) (w := w) (p := p) i (by omega)
    induction m with
    | zero => intro j Pl hm; omega
    | succ m ih =>
      intro j Pl hm hij hj hPl
      have hs1 := (flr_I hs0 (i := i) j hj).1
      have hb0 := hbd p hp0
      have hsw := fun z => isP_sw hp0 (i := i) (j := j) (by omega) z
      have i1 := fun Pl2 z => ih (j + 1) Pl2 (by omega) (by omega) z
      rw [flr] at i1
      refine z_iload F dX12_descend_65 rfl ?_
      refine z_aload_n F dX12_descend_67 rfl ?_
      refine z_get F zC12 (f := 0) rfl (Nat.le_of_ble_eq_true rfl) q1234 rfl dX12_descend_68 ?_
      refine z_getN F zC5 (f := 0) rfl (Nat.le_of_ble_eq_true rfl) q238 rfl dX12_descend_71 ?_
      refine z_icmp_geN F (by omega) (by omega) (tgt := 129) dX12_descend_74 (by decide) (fun c_74 => ?_) (fun c_74 => ?_)
      · refine z_iincN F 1 dX12_descend_129 rfl rfl ?_
        refine z_leq (L' := [_, _, _, _, _, _, _]) rfl ?_
        refine z_goto F (tgt := 47) dX12_descend_132 (by decide) ?_
        rw [show j = n by omega]
        refine z_loc _ ?_ (kk Pl hPl)
        exact ⟨rfl, rfl, rfl, rfl, rfl, trivial⟩
      · have hsw := hsw (by omega)
        have hbs := hbd _ hsw
        have hP1 := sw_putA (i := i) (j := j) hPl (by omega) (by omega)
        refine z_aload_n F dX12_descend_77 rfl ?_
        refine z_iload F dX12_descend_78 rfl ?_
        refine z_iload F dX12_descend_80 rfl ?_
        refine z_callV F (c_flEx n i j (nI w) _ Pl hn (by omega) (by omega)) 2 rfl (lw_V q1278 q1280 qs31 q140 q1281) (by decide +kernel) ⟨Nat.le_of_ble_eq_true rfl, Nat.le_of_ble_eq_true rfl⟩ ⟨by omega, by omega⟩ [0, 1, 2, 3, 4, 5, 6] 7 ⟨rfl, rfl, rfl, ⟨Or.inl rfl, Or.inr rfl, Or.inl rfl, Or.inl rfl, Or.inl rfl, Or.inr rfl, Or.inl rfl, trivial⟩⟩ (fun h => nomatch h) (Nat.le_of_ble_eq_true rfl) ⟨⟨Or.inr trivial, Or.inl rfl, Or.inr rfl, Or.inr trivial, Or.inr trivial, Or.inl rfl, Or.inr trivial, trivial⟩, rfl, rfl, rfl, Nat.le_of_ble_eq_true rfl⟩ rfl zC12 rfl rfl dX12_descend_82 (fun r_82 w_82 hp => ?_) (fun _ _ h => h.elim)
        obtain ⟨rfl, rfl⟩ := hp
        refine z_weq (w' := [zH, zO _ [zr _ _, zi _, zr _ _, zr _ _, zr _ _, zi _], zO _ [zi _, zi _, zr _ _], zH, zAi 0 (prs n f).length _, zAi 0 n _, zAi 0 n _]) rfl ?_
        refine z_seq (S' := []) rfl ?_
        refine z_aload_n F dX12_descend_85 rfl ?_
        refine z_callV F (c_flLen n w d f (sw2 p i j) _ R _ hn hw hw2 (fun k hk => hsw.1 k hk) hP1 (by omega) hR) 0 rfl (lw_V q1274 q1276 qs30 q140 q1277) (by decide +kernel) ⟨Nat.le_of_ble_eq_true rfl, Nat.le_of_ble_eq_true rfl⟩ ⟨by omega, by omega⟩ [0, 1, 2, 3, 4, 5, 6] 7 ⟨rfl, rfl, rfl, ⟨Or.inl rfl, Or.inr rfl, Or.inl rfl, Or.inl rfl, Or.inr rfl, Or.inr rfl, Or.inl rfl, trivial⟩⟩ (fun h => nomatch h) (Nat.le_of_ble_eq_true rfl) ⟨⟨Or.inr trivial, Or.inl rfl, Or.inr rfl, Or.inr trivial, Or.inl rfl, Or.inl rfl, Or.inr trivial, trivial⟩, rfl, rfl, rfl, Nat.le_of_ble_eq_true rfl⟩ rfl zC12 rfl rfl dX12_descend_86 (fun r_86 w_86 hp => ?_) (fun _ _ h => h.elim)
        obtain ⟨rfl, rfl⟩ := hp
        refine z_weq (w' := [zH, zO _ [zr _ _, zi _, zr _ _, zr _ _, zr _ _, zi _], zO _ [zi _, zi _, zr _ _], zH, zAi 0 (prs n f).length _, zAi 0 n _, zAi 0 n _]) rfl ?_
        refine z_seq (S' := zi _ :: _) rfl ?_
        refine z_istore F dX12_descend_89 (Nat.le_of_ble_eq_true rfl) ?_
        refine z_leq (L' := [_, _, _, _, _, _, _]) rfl ?_
        refine z_aload_n F dX12_descend_91 rfl ?_
        refine z_iload F dX12_descend_92 rfl ?_
        refine z_iload F dX12_descend_94 rfl ?_
        refine z_callV F (c_flEx n i j (nI w) _ _ hn (by omega) (by omega)) 2 rfl (lw_V q1278 q1280 qs31 q140 q1281) (by decide +kernel) ⟨Nat.le_of_ble_eq_true rfl, Nat.le_of_ble_eq_true rfl⟩ ⟨by omega, by omega⟩ [0, 1, 2, 3, 4, 5, 6] 7 ⟨rfl, rfl, rfl, ⟨Or.inl rfl, Or.inr rfl, Or.inl rfl, Or.inl rfl, Or.inl rfl, Or.inr rfl, Or.inl rfl, trivial⟩⟩ (fun h => nomatch h) (Nat.le_of_ble_eq_true rfl) ⟨⟨Or.inr trivial, Or.inl rfl, Or.inr rfl, Or.inr trivial, Or.inr trivial, Or.inl rfl, Or.inr trivial, trivial⟩, rfl, rfl, rfl, Nat.le_of_ble_eq_true rfl⟩ rfl zC12 rfl rfl dX12_descend_96 (fun r_96 w_96 hp => ?_) (fun _ _ h => h.elim)
        obtain ⟨rfl, rfl⟩ := hp
        refine z_weq (w' := [zH, zO _ [zr _ _, zi _, zr _ _, zr _ _, zr _ _, zi _], zO _ [zi _, zi _, zr _ _], zH, zAi 0 (prs n f).length _, zAi 0 n _, zAi 0 n _]) rfl ?_
        refine z_seq (S' := []) rfl ?_
        refine z_iload F dX12_descend_99 rfl ?_
        refine z_aload_n F dX12_descend_101 rfl ?_
        refine z_get F zC12 (f := 5) rfl (Nat.le_of_ble_eq_true rfl) q1240 rfl dX12_descend_102 ?_
        refine z_icmp_ltN F (by omega) (by omega) (tgt := 111) dX12_descend_105 (by decide) (fun c_105 => ?_) (fun c_105 => ?_)
        · refine z_aload_n F dX12_descend_111 rfl ?_
          refine z_iload F dX12_descend_112 rfl ?_
          refine z_put F zC12 (f := 5) rfl (Nat.le_of_ble_eq_true rfl) q1240 rfl (fun _ => rfl) (fun _ => rfl) (Nat.le_of_ble_eq_true rfl) dX12_descend_114 ?_
          refine z_weq (w' := [_, zO _ [_, _, _, _, _, _], _, _, _, _, _]) rfl ?_
          refine z_iload F dX12_descend_117 rfl ?_
          refine z_istore_n F dX12_descend_119 (Nat.le_of_ble_eq_true rfl) ?_
          refine z_leq (L' := [_, _, _, _, _, _, _]) rfl ?_
          refine z_iload F dX12_descend_120 rfl ?_
          refine z_istore_n F dX12_descend_122 (Nat.le_of_ble_eq_true rfl) ?_
          refine z_leq (L' := [_, _, _, _, _, _, _]) rfl ?_
          refine z_iincN F 1 dX12_descend_123 rfl rfl ?_
          refine z_leq (L' := [_, _, _, _, _, _, _]) rfl ?_
          refine z_goto F (tgt := 65) dX12_descend_126 (by decide) ?_
          have i2 := i1 _ (by omega) (fun k hk => (sw_putA hP1 (show i < n by omega) (show j < n by omega) k hk).trans (congrArg nI (sw_sw k)))
          rw [if_pos ⟨hij, by omega⟩] at i2
          refine z_loc _ ?_ i2
          exact ⟨rfl, rfl, rfl, rfl, rfl, rfl, trivial⟩
        · refine z_goto F (tgt := 123) dX12_descend_108 (by decide) ?_
          refine z_iincN F 1 dX12_descend_123 rfl rfl ?_
          refine z_leq (L' := [_, _, _, _, _, _, _]) rfl ?_
          refine z_goto F (tgt := 65) dX12_descend_126 (by decide) ?_
          have i2 := i1 _ (by omega) (fun k hk => (sw_putA hP1 (show i < n by omega) (show j < n by omega) k hk).trans (congrArg nI (sw_sw k)))
          rw [if_neg (by omega)] at i2
          refine z_loc _ ?_ i2
          exact ⟨rfl, rfl, rfl, rfl, rfl, rfl, trivial⟩
  have outer : ∀ (p : Nat → Nat), isP n p → (∀ Pl, (∀ k, k < n → Pl k = nI (p k)) → Z X [some (zr 1 0), some (zi (bI true)), some (zi (ftI (fla n f w p n).2)), some (zi (sdI (fla n f w p n).2)), none, none, none] [] (wDe n w d (nI (fla n f w p n).1) (prs n f).length R Pl Bs) 0 0 135) →
      ∀ (m i : Nat) (Pl : Nat → Int32), n - i < m → i ≤ n → (∀ k, k < n → Pl k = nI (p k)) → Z X [some (zr 1 0), some (zi (bI true)), some (zi (ftI (fla n f w p i).2)), some (zi (sdI (fla n f w p i).2)), some (zi (nI i)), none, none] [] (wDe n w d (nI (fla n f w p i).1) (prs n f).length R Pl Bs) 0 0 47 := by
    intro p hp0 kk m
    induction m with
    | zero => intro i Pl hm; omega
    | succ m ih =>
      intro i Pl hm hi hPl
      refine z_iload F dX12_descend_47 rfl ?_
      refine z_aload_n F dX12_descend_49 rfl ?_
      refine z_get F zC12 (f := 0) rfl (Nat.le_of_ble_eq_true rfl) q1234 rfl dX12_descend_50 ?_
      refine z_getN F zC5 (f := 0) rfl (Nat.le_of_ble_eq_true rfl) q238 rfl dX12_descend_53 ?_
      refine z_icmp_geN F (by omega) (by omega) (tgt := 135) dX12_descend_56 (by decide) (fun c_56 => ?_) (fun c_56 => ?_)
      · rw [show i = n by omega]
        refine z_loc _ ?_ (kk Pl hPl)
        exact ⟨rfl, rfl, rfl, rfl, trivial⟩
      · refine z_iload F dX12_descend_59 rfl ?_
        refine z_iconst F (nI 1) dX12_descend_61 rfl ?_
        refine z_iaddN F dX12_descend_62 ?_
        refine z_istore F dX12_descend_63 (Nat.le_of_ble_eq_true rfl) ?_
        refine z_leq (L' := [_, _, _, _, _, _, _]) rfl ?_
        have r1 := inner p hp0 i (by omega) (fun Pl2 q => ih (i + 1) Pl2 (by omega) (by omega) q) (n + 1) (i + 1) Pl (by omega) (by omega) (by omega) hPl
        rw [flr_lo _ (Nat.le_refl _)] at r1
        exact r1
  have top : ∀ (m : Nat) (p : Nat → Nat) (Pl : Nat → Int32), LN n f w p < m → isP n p → clF n f w m p = clF n f w (LN n f w (fun i => i) + 1) (fun i => i) → (∀ k, k < n → Pl k = nI (p k)) → Z X [some (zr 1 0), some (zi (bI true)), none, none, none, none, none] [] (wDe n w d (nI (LN n f w p)) (prs n f).length R Pl Bs) 0 0 36 := by
    intro m
    induction m with
    | zero => intro p Pl hm; omega
    | succ m ih =>
      intro p Pl hm hp0 hcl hPl
      have hs := fla_I (n := n) (f := f) (w := w) (p := p) n (Nat.le_refl _)
      have at135 : ∀ Pl, (∀ k, k < n → Pl k = nI (p k)) → Z X [some (zr 1 0), some (zi (bI true)), some (zi (ftI (fla n f w p n).2)), some (zi (sdI (fla n f w p n).2)), none, none, none] [] (wDe n w d (nI (fla n f w p n).1) (prs n f).length R Pl Bs) 0 0 135 := by
        intro Pl hPl
        rw [clF] at hcl
        rcases ho : (fla n f w p n).2 with _ | ⟨i, j⟩
        ·
          rw [ho] at hcl
          have hcl0 : p = clF n f w (LN n f w (fun i => i) + 1) (fun i => i) := hcl
          rw [hs.2.1 ho]
          refine z_iload_n F dX12_descend_135 rfl ?_
          refine z_iconst F (-1) dX12_descend_136 rfl ?_
          refine z_icmp_eq F (tgt := 144) dX12_descend_137 (by decide) (fun c_137 => ?_) (fun c_137 => ?_)
          · refine z_iconstB F false dX12_descend_144 rfl ?_
            refine z_istore_n F dX12_descend_145 (Nat.le_of_ble_eq_true rfl) ?_
            refine z_leq (L' := [_, _, _, _, _, _, _]) rfl ?_
            refine z_iload_n F dX12_descend_146 rfl ?_
            refine z_if_eqB F (tgt := 156) dX12_descend_147 (by decide) (fun c_147 => ?_) (fun c_147 => ?_)
            · refine z_goto F (tgt := 36) dX12_descend_156 (by decide) ?_
              refine z_iload_n F dX12_descend_36 rfl ?_
              refine z_if_eqB F (tgt := 159) dX12_descend_37 (by decide) (fun c_37 => ?_) (fun c_37 => ?_)
              · refine z_iconst F (nI 0) dX12_descend_159 rfl ?_
                refine z_istore_n F dX12_descend_160 (Nat.le_of_ble_eq_true rfl) ?_
                refine z_leq (L' := [_, _, _, _, _, _, _]) rfl ?_
                refine z_loc _ ?_ (fin p Pl hPl hcl0 (n + 1) 0 Bs (by omega) (by omega) (fun i hi => absurd hi (by omega)))
                exact ⟨rfl, rfl, trivial⟩
              · cases c_37
            · cases c_147
          · exact absurd rfl c_137
        rw [ho] at hcl
        have hcl0 : clF n f w m (sw2 p i j) = clF n f w (LN n f w (fun i => i) + 1) (fun i => i) := hcl
        obtain ⟨q1, q2, q3, q4⟩ := hs.2.2 i j ho
        rw [q3]
        have hP1 := sw_putA (i := i) (j := j) hPl (by omega) (by omega)
        refine z_iload_n F dX12_descend_135 rfl ?_
        refine z_iconst F (-1) dX12_descend_136 rfl ?_
        refine z_icmp_eq F (tgt := 144) dX12_descend_137 (by decide) (fun c_137 => ?_) (fun c_137 => ?_)
        · exact absurd c_137 (nI_ne (by omega))
        · refine z_iconstB F true dX12_descend_140 rfl ?_
          refine z_goto F (tgt := 145) dX12_descend_141 (by decide) ?_
          refine z_istore_n F dX12_descend_145 (Nat.le_of_ble_eq_true rfl) ?_
          refine z_leq (L' := [_, _, _, _, _, _, _]) rfl ?_
          refine z_iload_n F dX12_descend_146 rfl ?_
          refine z_if_eqB F (tgt := 156) dX12_descend_147 (by decide) (fun c_147 => ?_) (fun c_147 => ?_)
          · cases c_147
          · refine z_aload_n F dX12_descend_150 rfl ?_
            refine z_iload_n F dX12_descend_151 rfl ?_
            refine z_iload_n F dX12_descend_152 rfl ?_
            refine z_callV F (c_flEx n i j (nI w) _ Pl hn (by omega) (by omega)) 2 rfl (lw_V q1278 q1280 qs31 q140 q1281) (by decide +kernel) ⟨Nat.le_of_ble_eq_true rfl, Nat.le_of_ble_eq_true rfl⟩ ⟨by omega, by omega⟩ [0, 1, 2, 3, 4, 5, 6] 7 ⟨rfl, rfl, rfl, ⟨Or.inl rfl, Or.inr rfl, Or.inl rfl, Or.inl rfl, Or.inl rfl, Or.inr rfl, Or.inl rfl, trivial⟩⟩ (fun h => nomatch h) (Nat.le_of_ble_eq_true rfl) ⟨⟨Or.inr trivial, Or.inl rfl, Or.inr rfl, Or.inr trivial, Or.inr trivial, Or.inl rfl, Or.inr trivial, trivial⟩, rfl, rfl, rfl, Nat.le_of_ble_eq_true rfl⟩ rfl zC12 rfl rfl dX12_descend_153 (fun r_153 w_153 hp => ?_) (fun _ _ h => h.elim)
            obtain ⟨rfl, rfl⟩ := hp
            refine z_weq (w' := [zH, zO _ [zr _ _, zi _, zr _ _, zr _ _, zr _ _, zi _], zO _ [zi _, zi _, zr _ _], zH, zAi 0 (prs n f).length _, zAi 0 n _, zAi 0 n _]) rfl ?_
            refine z_seq (S' := []) rfl ?_
            refine z_goto F (tgt := 36) dX12_descend_156 (by decide) ?_
            refine z_loc _ ?_ (ih (sw2 p i j) _ (by omega) (isP_sw hp0 (by omega) (by omega)) hcl0 hP1)
            exact ⟨rfl, rfl, trivial⟩
      refine z_iload_n F dX12_descend_36 rfl ?_
      refine z_if_eqB F (tgt := 159) dX12_descend_37 (by decide) (fun c_37 => ?_) (fun c_37 => ?_)
      · cases c_37
      · refine z_iconst F (-1) dX12_descend_40 rfl ?_
        refine z_istore_n F dX12_descend_41 (Nat.le_of_ble_eq_true rfl) ?_
        refine z_leq (L' := [_, _, _, _, _, _, _]) rfl ?_
        refine z_iconst F (-1) dX12_descend_42 rfl ?_
        refine z_istore_n F dX12_descend_43 (Nat.le_of_ble_eq_true rfl) ?_
        refine z_leq (L' := [_, _, _, _, _, _, _]) rfl ?_
        refine z_iconst F (nI 0) dX12_descend_44 rfl ?_
        refine z_istore F dX12_descend_45 (Nat.le_of_ble_eq_true rfl) ?_
        refine z_leq (L' := [_, _, _, _, _, _, _]) rfl ?_
        exact outer p hp0 at135 (n + 1) 0 Pl (by omega) (by omega) hPl
  have ident : ∀ (m k : Nat) (Pl : Nat → Int32), n - k < m → k ≤ n → (∀ i, i < k → Pl i = nI i) → Z X [some (zr 1 0), some (zi (nI k)), none, none, none, none, none] [] (wDe n w d ls (prs n f).length R Pl Bs) 0 0 2 := by
    intro m
    induction m with
    | zero => intro k Pl hm; omega
    | succ m ih =>
      intro k Pl hm hk hPl
      refine z_iload_n F dX12_descend_2 rfl ?_
      refine z_aload_n F dX12_descend_3 rfl ?_
      refine z_get F zC12 (f := 0) rfl (Nat.le_of_ble_eq_true rfl) q1234 rfl dX12_descend_4 ?_
      refine z_getN F zC5 (f := 0) rfl (Nat.le_of_ble_eq_true rfl) q238 rfl dX12_descend_7 ?_
      refine z_icmp_geN F (by omega) (by omega) (tgt := 26) dX12_descend_10 (by decide) (fun c_10 => ?_) (fun c_10 => ?_)
      · refine z_aload_n F dX12_descend_26 rfl ?_
        refine z_aload_n F dX12_descend_27 rfl ?_
        refine z_callV F (c_flLen n w d f (fun i => i) _ R Pl hn hw hw2 (fun k hk => hk) (fun k hk => hPl k (by omega)) (by omega) hR) 0 rfl (lw_V q1274 q1276 qs30 q140 q1277) (by decide +kernel) ⟨Nat.le_of_ble_eq_true rfl, Nat.le_of_ble_eq_true rfl⟩ ⟨by omega, by omega⟩ [0, 1, 2, 3, 4, 5, 6] 7 ⟨rfl, rfl, rfl, ⟨Or.inl rfl, Or.inr rfl, Or.inl rfl, Or.inl rfl, Or.inr rfl, Or.inr rfl, Or.inl rfl, trivial⟩⟩ (fun h => nomatch h) (Nat.le_of_ble_eq_true rfl) ⟨⟨Or.inr trivial, Or.inl rfl, Or.inr rfl, Or.inr trivial, Or.inl rfl, Or.inl rfl, Or.inr trivial, trivial⟩, rfl, rfl, rfl, Nat.le_of_ble_eq_true rfl⟩ rfl zC12 rfl rfl dX12_descend_28 (fun r_28 w_28 hp => ?_) (fun _ _ h => h.elim)
        obtain ⟨rfl, rfl⟩ := hp
        refine z_weq (w' := [zH, zO _ [zr _ _, zi _, zr _ _, zr _ _, zr _ _, zi _], zO _ [zi _, zi _, zr _ _], zH, zAi 0 (prs n f).length _, zAi 0 n _, zAi 0 n _]) rfl ?_
        refine z_seq (S' := zi _ :: _) rfl ?_
        refine z_put F zC12 (f := 5) rfl (Nat.le_of_ble_eq_true rfl) q1240 rfl (fun _ => rfl) (fun _ => rfl) (Nat.le_of_ble_eq_true rfl) dX12_descend_31 ?_
        refine z_weq (w' := [_, zO _ [_, _, _, _, _, _], _, _, _, _, _]) rfl ?_
        refine z_iconstB F true dX12_descend_34 rfl ?_
        refine z_istore_n F dX12_descend_35 (Nat.le_of_ble_eq_true rfl) ?_
        refine z_leq (L' := [_, _, _, _, _, _, _]) rfl ?_
        exact top (LN n f w (fun i => i) + 1) (fun i => i) Pl (by omega) (isP_id n) rfl (fun k hk => hPl k (by omega))
      · refine z_aload_n F dX12_descend_13 rfl ?_
        refine z_get F zC12 (f := 3) rfl (Nat.le_of_ble_eq_true rfl) q1237 rfl dX12_descend_14 ?_
        refine z_iload_n F dX12_descend_17 rfl ?_
        refine z_iload_n F dX12_descend_18 rfl ?_
        refine z_iastN F rfl (by omega) (by omega) dX12_descend_19 ?_
        refine z_weq (w' := [_, _, _, _, _, _, _]) rfl ?_
        refine z_iincN F 1 dX12_descend_20 rfl rfl ?_
        refine z_leq (L' := [_, _, _, _, _, _, _]) rfl ?_
        refine z_goto F (tgt := 2) dX12_descend_23 (by decide) ?_
        exact ih (k + 1) _ (by omega) (by omega) (fun i hi => by
          show (if i = k then _ else Pl i) = _
          by_cases e : i = k
          · rw [if_pos e, e]
          · rw [if_neg e]; exact hPl i (by omega))
  refine z_iconst F (nI 0) dX12_descend_0 rfl ?_
  refine z_istore_n F dX12_descend_1 (Nat.le_of_ble_eq_true rfl) ?_
  refine z_leq (L' := [_, _, _, _, _, _, _]) rfl ?_
  exact ident (n + 1) 0 Pl (by omega) (by omega) (fun i hi => absurd hi (by omega))
end C9s
