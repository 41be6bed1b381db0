/-! the reader's String constants -/
section CA1
section RA1
variable {X : zX} {cc : ByteArray} {own : String} {ret : Option FieldType} {nL d mc ms nw : Nat} {np : Bool} {L : List (Option zV)} {S : List zV} {w : List zE} {k n pc : Nat} {post : Option zV → List zE → Prop} {xpost : String → List zE → Prop}
theorem z_nret (F : zFix X cc own ret nL d mc ms nw np) (E : zEnd X post xpost mc ms) {x : Int32} {ty : FieldType} (hret : ret = some ty) (hx : narrow ty (.int x) = .int x) (hd : decode cc pc = .ok (.ireturn, 1)) (hk : k ≤ mc) (hn : n ≤ ms) (hp : post (some (zi x)) w) : Z X L [zi x] w k n pc := fun ad H locs ls h0 h1 h2 h3 h4 => by
  unfold zWj
  rw [E.1]
  exact vx_ret (W.widen hk hn (W.zret (v := x) F.1 F.2.1 (F.2.2.2.2.2.2.2.1.trans hret) hx (fun t ht _ => E.q h0 h1 h2 h3 hp ht) (fun q hq => by have := h3.2.2 q hq; rwa [E.2] at this) hd F.2.2.2.2.2.2.1))
end RA1
/-- where the i-th word lies among the constants -/
def ksI (i : Nat) : Nat := if i < 5 then i + 2 else i - 5
theorem ksI_lt {i : Nat} (h : i < 7) : ksI i < 7 := by unfold ksI; split <;> omega
theorem ks_len : ∀ i, i < 7 → ksN.getD (ksI i) 0 = kwL i := by decide
theorem ks_and : ∀ i, i < 7 → ∀ k, k < 6 → k < kwL i → (ksB.getD (ksI i) []).getD k 0 &&& nI 255 = nI (kwW i k) := by decide +kernel
theorem ks_lt : ∀ i, i < 7 → ∀ k, k < 6 → kwW i k < 128 := by decide +kernel
theorem ks_ch : ∀ c, c < 128 → ((nI c).toUInt32 % 65536).toInt32 = nI c := by decide +kernel
theorem ks_nar : ∀ c, c < 128 → narrow .char (.int (nI c)) = .int (nI c) := by decide +kernel
theorem kwL_6 : ∀ i, i < 7 → kwL i ≤ 6 := by decide
theorem c_JpreCheckQ (i n a : Nat) (hi : i < n) (hn : n < 2 ^ 31) : zCtr yJ13_checkIndex cJ13_checkIndex 3 (some .int) 0 0 0 [zi (nI i), zi (nI n), zq a] [zH] (fun r w => r = some (zi (nI i)) ∧ w = [zH]) zNx := by
  refine z_start (by decide) [some (zi (nI i)), some (zi (nI n)), some (zq a)] rfl (fun _ => Nat.le_of_ble_eq_true rfl) (fun _ => rfl) (fun X F E hno hin => ?_)
  refine z_iload_n F dJ13_checkIndex_0 rfl ?_
  refine z_if_ltN F (by omega) (tgt := 9) dJ13_checkIndex_1 (by decide) (fun c_1 => ?_) (fun c_1 => ?_)
  · exact absurd c_1 (by omega)
  · refine z_iload_n F dJ13_checkIndex_4 rfl ?_
    refine z_iload_n F dJ13_checkIndex_5 rfl ?_
    refine z_icmp_ltN F (by omega) (by omega) (tgt := 16) dJ13_checkIndex_6 (by decide) (fun c_6 => ?_) (fun c_6 => ?_)
    · refine z_iload_n F dJ13_checkIndex_16 rfl ?_
      exact z_iret F E rfl dJ13_checkIndex_17 (by omega) (by omega) (⟨rfl, rfl⟩)
    · exact absurd c_6 (by omega)
theorem c_JstrCheck (i n : Nat) (hi : i < n) (hn : n < 2 ^ 31) : zCtr yJ11_checkIndex cJ11_checkIndex 2 none 1 0 0 [zi (nI i), zi (nI n)] [zH] (fun r w => r = none ∧ w = [zH]) zNx := by
  refine z_start (by decide) [some (zi (nI i)), some (zi (nI n))] rfl (fun _ => Nat.le_of_ble_eq_true rfl) (fun _ => rfl) (fun X F E hno hin => ?_)
  have key : ∀ v : zV, (v = zn ∨ ∃ a, v = zq a) → Z X [some (zi (nI i)), some (zi (nI n))] [v, zi (nI n), zi (nI i)] [zH] 0 0 5 := by
    rintro v (rfl | ⟨a, rfl⟩)
    · skip
      refine z_callS F (c_JpreCheck i n hi hn) 3 rfl (lw_S q656 q657 q129 q658) (by decide +kernel) ⟨Nat.le_of_ble_eq_true rfl, Nat.le_of_ble_eq_true rfl⟩ ⟨by omega, by omega⟩ [0] 1 ⟨rfl, rfl, rfl, ⟨Or.inl rfl, trivial⟩⟩ (fun h => nomatch h) (Nat.le_of_ble_eq_true rfl) ⟨⟨Or.inr trivial, trivial⟩, rfl, rfl, rfl, Nat.le_of_ble_eq_true rfl⟩ rfl rfl dJ11_checkIndex_5 (fun r_5 w_5 hp => ?_) (fun _ _ h => h.elim)
      obtain ⟨rfl, rfl⟩ := hp
      refine z_weq (w' := [zH]) rfl ?_
      refine z_seq (S' := zi _ :: _) rfl ?_
      refine z_pop F dJ11_checkIndex_8 rfl ?_
      exact z_vret F E rfl dJ11_checkIndex_9 (by omega) (by omega) (⟨rfl, rfl⟩)
    · skip
      refine z_callS F (c_JpreCheckQ i n a hi hn) 3 rfl (lw_S q656 q657 q129 q658) (by decide +kernel) ⟨Nat.le_of_ble_eq_true rfl, Nat.le_of_ble_eq_true rfl⟩ ⟨by omega, by omega⟩ [0] 1 ⟨rfl, rfl, rfl, ⟨Or.inl rfl, trivial⟩⟩ (fun h => nomatch h) (Nat.le_of_ble_eq_true rfl) ⟨⟨Or.inr trivial, trivial⟩, rfl, rfl, rfl, Nat.le_of_ble_eq_true rfl⟩ rfl rfl dJ11_checkIndex_5 (fun r_5 w_5 hp => ?_) (fun _ _ h => h.elim)
      obtain ⟨rfl, rfl⟩ := hp
      refine z_weq (w' := [zH]) rfl ?_
      refine z_seq (S' := zi _ :: _) rfl ?_
      refine z_pop F dJ11_checkIndex_8 rfl ?_
      exact z_vret F E rfl dJ11_checkIndex_9 (by omega) (by omega) (⟨rfl, rfl⟩)
  refine z_iload_n F dJ11_checkIndex_0 rfl ?_
  refine z_iload_n F dJ11_checkIndex_1 rfl ?_
  refine z_getsq F (F.con.2.2.2.2.2.2.2.1) q654 dJ11_checkIndex_2 (fun v_2 h_2 => ?_)
  exact key v_2 h_2
theorem c_Jcoder (D : va_G) (i : Nat) (hi : i < 7) : zCtrD D yJ11_coder cJ11_coder 1 (some .byte) 0 0 0 [zq (D.2 1002 (ksI i))] [zH] (fun r w => r = some (zi 0) ∧ w = [zH]) zNx := by
  refine z_startD (by decide) [some (zq (D.2 1002 (ksI i)))] rfl (fun _ => Nat.le_of_ble_eq_true rfl) (fun _ => rfl) (fun X hD F E hno hin => ?_)
  subst hD
  have hS := F.con.2.2.2.2.2.2.2.2.1.1 (ksI i) (ksI_lt hi)
  refine z_gets F (F.con.2.2.2.2.2.2.1) q638 dJ11_coder_0 ?_
  refine z_if_eq F (tgt := 13) dJ11_coder_3 (by decide) (fun c_3 => ?_) (fun c_3 => ?_)
  · exact absurd c_3 (by decide)
  · refine z_aloadQ_n F dJ11_coder_6 rfl ?_
    refine z_getQ F (hS.2.1) q2201 dJ11_coder_7 ?_
    refine z_goto F (tgt := 14) dJ11_coder_10 (by decide) ?_
    exact z_nret F E rfl rfl dJ11_coder_14 (by omega) (by omega) (⟨rfl, rfl⟩)
theorem c_JstrLen (D : va_G) (i : Nat) (hi : i < 7) : zCtrD D yJ11_length cJ11_length 1 (some .int) 1 0 0 [zq (D.2 1002 (ksI i))] [zH] (fun r w => r = some (zi (nI (kwL i))) ∧ w = [zH]) zNx := by
  refine z_startD (by decide) [some (zq (D.2 1002 (ksI i)))] rfl (fun _ => Nat.le_of_ble_eq_true rfl) (fun _ => rfl) (fun X hD F E hno hin => ?_)
  subst hD
  have hS := F.con.2.2.2.2.2.2.2.2.1.1 (ksI i) (ksI_lt hi)
  have hl := ks_len i hi
  have h6 := kwL_6 i hi
  have hO := hS.1
  refine z_aloadQ_n F dJ11_length_0 rfl ?_
  refine z_getQ F (hS.2.2.1) q2200 dJ11_length_1 ?_
  refine z_alenQ F (hS.2.2.2) dJ11_length_4 ?_
  refine z_aloadQ_n F dJ11_length_5 rfl ?_
  refine z_callVR F (c_Jcoder _ i hi) 0 rfl (lw_V q634 q635 q636 q127 q637) (by decide +kernel) ⟨Nat.le_of_ble_eq_true rfl, Nat.le_of_ble_eq_true rfl⟩ ⟨by omega, by omega⟩ [0] 1 ⟨rfl, rfl, rfl, ⟨Or.inl rfl, trivial⟩⟩ (fun h => nomatch h) (Nat.le_of_ble_eq_true rfl) ⟨⟨Or.inr trivial, trivial⟩, rfl, rfl, rfl, Nat.le_of_ble_eq_true rfl⟩ rfl (hO) rfl dJ11_length_6 (fun r_6 w_6 hp => ?_) (fun _ _ h => h.elim)
  obtain ⟨rfl, rfl⟩ := hp
  refine z_weq (w' := [zH]) rfl ?_
  refine z_seq (S' := zi _ :: _) rfl ?_
  refine z_ishr F dJ11_length_9 ?_
  exact z_iret F E rfl dJ11_length_10 (by omega) (by omega) (⟨by rw [hl]; exact congrArg (fun v : Int32 => (some (zi v) : Option zV)) ((by decide +kernel : ∀ m, m < 7 → nI m >>> ((0 : Int32) &&& 31) = nI m) (kwL i) (by omega)), rfl⟩)
theorem c_JisLat (D : va_G) (i : Nat) (hi : i < 7) : zCtrD D yJ11_isLatin1 cJ11_isLatin1 1 (some .boolean) 0 0 0 [zq (D.2 1002 (ksI i))] [zH] (fun r w => r = some (zi (bI true)) ∧ w = [zH]) zNx := by
  refine z_startD (by decide) [some (zq (D.2 1002 (ksI i)))] rfl (fun _ => Nat.le_of_ble_eq_true rfl) (fun _ => rfl) (fun X hD F E hno hin => ?_)
  subst hD
  have hS := F.con.2.2.2.2.2.2.2.2.1.1 (ksI i) (ksI_lt hi)
  refine z_gets F (F.con.2.2.2.2.2.2.1) q638 dJ11_isLatin1_0 ?_
  refine z_if_eq F (tgt := 17) dJ11_isLatin1_3 (by decide) (fun c_3 => ?_) (fun c_3 => ?_)
  · exact absurd c_3 (by decide)
  · refine z_aloadQ_n F dJ11_isLatin1_6 rfl ?_
    refine z_getQ F (hS.2.1) q2201 dJ11_isLatin1_7 ?_
    refine z_if_ne F (tgt := 17) dJ11_isLatin1_10 (by decide) (fun c_10 => ?_) (fun c_10 => ?_)
    · exact absurd c_10 (by decide)
    · refine z_iconstB F true dJ11_isLatin1_13 rfl ?_
      refine z_goto F (tgt := 18) dJ11_isLatin1_14 (by decide) ?_
      exact z_zret F E rfl (bI_nar _) dJ11_isLatin1_18 (by omega) (by omega) (⟨rfl, rfl⟩)
theorem c_JlatChar (D : va_G) (i k : Nat) (hi : i < 7) (hk : k < kwL i) : zCtrD D yJ12_charAt cJ12_charAt 2 (some .char) 2 0 0 [zq (D.2 1003 (ksI i)), zi (nI k)] [zH] (fun r w => r = some (zi (nI (kwW i k))) ∧ w = [zH]) zNx := by
  refine z_startD (by decide) [some (zq (D.2 1003 (ksI i))), some (zi (nI k))] rfl (fun _ => Nat.le_of_ble_eq_true rfl) (fun _ => rfl) (fun X hD F E hno hin => ?_)
  subst hD
  have hS := F.con.2.2.2.2.2.2.2.2.1.1 (ksI i) (ksI_lt hi)
  have hl := ks_len i hi
  have h6 := kwL_6 i hi
  have hT := hS.2.2.2
  rw [hl] at hT
  have hc := ks_lt i hi k (by omega)
  refine z_iload_n F dJ12_charAt_0 rfl ?_
  refine z_aloadQ_n F dJ12_charAt_1 rfl ?_
  refine z_alenQ F (hT) dJ12_charAt_2 ?_
  refine z_callS F (c_JstrCheck k (kwL i) hk (by omega)) 2 rfl (lw_S q651 q652 q127 q653) (by decide +kernel) ⟨Nat.le_of_ble_eq_true rfl, Nat.le_of_ble_eq_true rfl⟩ ⟨by omega, by omega⟩ [0] 1 ⟨rfl, rfl, rfl, ⟨Or.inl rfl, trivial⟩⟩ (fun h => nomatch h) (Nat.le_of_ble_eq_true rfl) ⟨⟨Or.inr trivial, trivial⟩, rfl, rfl, rfl, Nat.le_of_ble_eq_true rfl⟩ rfl rfl dJ12_charAt_3 (fun r_3 w_3 hp => ?_) (fun _ _ h => h.elim)
  obtain ⟨rfl, rfl⟩ := hp
  refine z_weq (w' := [zH]) rfl ?_
  refine z_seq (S' := []) rfl ?_
  refine z_aloadQ_n F dJ12_charAt_6 rfl ?_
  refine z_iload_n F dJ12_charAt_7 rfl ?_
  refine z_baldQ F (hT) (by first | decide | omega) (by omega) (rfl) dJ12_charAt_8 ?_
  refine z_sipush F (nI 255) dJ12_charAt_9 rfl ?_
  refine z_iand F dJ12_charAt_12 ?_
  refine z_ieq (ks_and i hi k (by omega) hk) ?_
  refine z_i2c F dJ12_charAt_13 ?_
  refine z_ieq (ks_ch _ hc) ?_
  exact z_nret F E rfl (ks_nar _ hc) dJ12_charAt_14 (by omega) (by omega) (⟨rfl, rfl⟩)
theorem c_JcharAt (D : va_G) (i k : Nat) (hi : i < 7) (hk : k < kwL i) : zCtrD D yJ11_charAt cJ11_charAt 2 (some .char) 3 0 0 [zq (D.2 1002 (ksI i)), zi (nI k)] [zH] (fun r w => r = some (zi (nI (kwW i k))) ∧ w = [zH]) zNx := by
  refine z_startD (by decide) [some (zq (D.2 1002 (ksI i))), some (zi (nI k))] rfl (fun _ => Nat.le_of_ble_eq_true rfl) (fun _ => rfl) (fun X hD F E hno hin => ?_)
  subst hD
  have hS := F.con.2.2.2.2.2.2.2.2.1.1 (ksI i) (ksI_lt hi)
  have h6 := kwL_6 i hi
  have hO := hS.1
  have hc := ks_lt i hi k (by omega)
  refine z_aloadQ_n F dJ11_charAt_0 rfl ?_
  refine z_callVR F (c_JisLat _ i hi) 0 rfl (lw_V q644 q645 q646 q127 q647) (by decide +kernel) ⟨Nat.le_of_ble_eq_true rfl, Nat.le_of_ble_eq_true rfl⟩ ⟨by omega, by omega⟩ [0] 1 ⟨rfl, rfl, rfl, ⟨Or.inl rfl, trivial⟩⟩ (fun h => nomatch h) (Nat.le_of_ble_eq_true rfl) ⟨⟨Or.inr trivial, trivial⟩, rfl, rfl, rfl, Nat.le_of_ble_eq_true rfl⟩ rfl (hO) rfl dJ11_charAt_1 (fun r_1 w_1 hp => ?_) (fun _ _ h => h.elim)
  obtain ⟨rfl, rfl⟩ := hp
  refine z_weq (w' := [zH]) rfl ?_
  refine z_seq (S' := zi _ :: _) rfl ?_
  refine z_if_eqB F (tgt := 16) dJ11_charAt_4 (by decide) (fun c_4 => ?_) (fun c_4 => ?_)
  · cases c_4
  · refine z_aloadQ_n F dJ11_charAt_7 rfl ?_
    refine z_getQ F (hS.2.2.1) q2200 dJ11_charAt_8 ?_
    refine z_iload_n F dJ11_charAt_11 rfl ?_
    refine z_callSD F (c_JlatChar _ i k hi hk) 2 rfl (lw_S q648 q649 q128 q650) (by decide +kernel) ⟨Nat.le_of_ble_eq_true rfl, Nat.le_of_ble_eq_true rfl⟩ ⟨by omega, by omega⟩ [0] 1 ⟨rfl, rfl, rfl, ⟨Or.inl rfl, trivial⟩⟩ (fun h => nomatch h) (Nat.le_of_ble_eq_true rfl) ⟨⟨Or.inr trivial, trivial⟩, rfl, rfl, rfl, Nat.le_of_ble_eq_true rfl⟩ rfl rfl dJ11_charAt_12 (fun r_12 w_12 hp => ?_) (fun _ _ h => h.elim)
    obtain ⟨rfl, rfl⟩ := hp
    refine z_weq (w' := [zH]) rfl ?_
    refine z_seq (S' := zi _ :: _) rfl ?_
    exact z_nret F E rfl (ks_nar _ hc) dJ11_charAt_15 (by omega) (by omega) (⟨rfl, rfl⟩)
end CA1
