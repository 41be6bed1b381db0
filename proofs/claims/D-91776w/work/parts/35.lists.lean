/-! the reference: lines -/
section C35
def LnE (A : Nat → Nat → Int32) (l : List (Nat × Nat)) : Prop := ∀ i, i < l.length → A 21 i = nI (l.getD i (0, 0)).1 ∧ A 22 i = nI (l.getD i (0, 0)).2
theorem LnE.app {A : Nat → Nat → Int32} {l : List (Nat × Nat)} (h : LnE A l) (q : Nat × Nat) : LnE (zup2 (zup2 A 21 l.length (nI q.1)) 22 l.length (nI q.2)) (l ++ [q]) := by
  intro i hi
  rw [List.length_append, List.length_singleton] at hi
  by_cases e : i = l.length
  · subst e
    rw [zup2_ne (by decide), zup2_at, if_pos rfl, zup2_at, if_pos rfl]
    simp
  · have hl : i < l.length := by omega
    rw [zup2_ne (by decide), zup2_at, if_neg e, zup2_at, if_neg e, zup2_ne (by decide)]
    have : (l ++ [q]).getD i (0, 0) = l.getD i (0, 0) := by simp [List.getElem?_append_left hl]
    rw [this]
    exact h i hl
theorem pas_le (n : Nat) (f : Nat → Int32) {a : Nat} (ha : a ≤ n) : (pas n f a).length ≤ (prs n f).length := by
  unfold prs
  rw [pas_len, pas_len]
  obtain ⟨k, rfl⟩ : ∃ k, n = a + k := ⟨n - a, by omega⟩
  exact fb_sm_mono _ _ _
theorem c_lists (F0 : Nat → Int32) (G : Nat → Int64) (A : Nat → Nat → Int32) (B : Nat → Nat → Int64) (n : Nat) (f : Nat → Int32) (hn : n ≤ 24) (h96 : (prs n f).length ≤ 96) (h4 : F0 4 = nI n) (hf : ∀ k, k < n → A 6 k = f k) :
    zCtr yX6_lists cX6_lists 3 none 1 0 0 [zr 1 0] [zH, zG F0 G A B] (fun r w => r = none ∧ ∃ A', w = [zH, zG (upd F0 20 (nI (prs n f).length)) G A' B] ∧ frm [21, 22] A A' ∧ LnE A' (prs n f)) zNx := by
  refine z_start (by decide) [some (zr 1 0), none, none] rfl (fun _ => Nat.le_of_ble_eq_true rfl) (fun _ => rfl) (fun X F E hno hin => ?_)
  have inner : ∀ (a : Nat), a < n → ∀ (m b : Nat) (l : List (Nat × Nat)) (A' : Nat → Nat → Int32), l = pas n f a ++ pbs f a b → l.length ≤ 96 → frm [21, 22] A A' → LnE A' l → n + 1 - b < m → b ≤ n → a < b → (∀ A2, frm [21, 22] A A2 → LnE A2 (pas n f (a + 1)) → Z X [some (zr 1 0), some (zi (nI (a + 1))), none] [] [zH, zG (upd F0 20 (nI (pas n f (a + 1)).length)) G A2 B] 0 0 7) → Z X [some (zr 1 0), some (zi (nI a)), some (zi (nI b))] [] [zH, zG (upd F0 20 (nI l.length)) G A' B] 0 0 19 := by
    intro a ha m
    induction m with
    | zero => intro b l A' hl hl2 hA hE hm; omega
    | succ m ih =>
      intro b l A' hl hl2 hA hE hm hb hab kk
      refine z_iload_n F dX6_lists_19 rfl ?_
      refine z_aload_n F dX6_lists_20 rfl ?_
      refine z_mi F rfl 4 rfl (Nat.le_of_ble_eq_true rfl) rfl q1484 dX6_lists_21 ?_
      refine z_ieq ((show _ = nI n from h4)) ?_
      refine z_icmp_geN F (by omega) (by omega) (tgt := 75) dX6_lists_24 (by decide) (fun c_24 => ?_) (fun c_24 => ?_)
      · have eb : b = n := by omega
        subst eb
        subst hl
        refine z_iincN F 1 dX6_lists_75 rfl rfl ?_
        refine z_leq (L' := [_, _, _]) rfl ?_
        refine z_goto F (tgt := 7) dX6_lists_78 (by decide) ?_
        refine z_loc _ ?_ (kk A' hA hE)
        exact ⟨rfl, rfl, trivial⟩
      · refine z_aload_n F dX6_lists_27 rfl ?_
        refine z_iload_n F dX6_lists_28 rfl ?_
        refine z_iload_n F dX6_lists_29 rfl ?_
        refine z_callV F (c_isJoined _ _ _ _ a b (by omega) (by omega)) 2 rfl (lw_V q1748 q1750 qs46 q117 q1751) (by decide +kernel) ⟨Nat.le_of_ble_eq_true rfl, Nat.le_of_ble_eq_true rfl⟩ ⟨by omega, by omega⟩ [0, 1] 2 ⟨rfl, rfl, rfl, ⟨Or.inl rfl, Or.inr rfl, trivial⟩⟩ (fun h => nomatch h) (Nat.le_of_ble_eq_true rfl) ⟨⟨Or.inr trivial, Or.inl rfl, trivial⟩, rfl, rfl, rfl, Nat.le_of_ble_eq_true rfl⟩ rfl zC6 (zat_G0 rfl) rfl dX6_lists_30 (fun r_30 w_30 hp => ?_) (fun _ _ h => h.elim)
        obtain ⟨rfl, rfl⟩ := hp
        rw [hA.at 6 rfl, hf a ha]
        refine z_weq (w' := [zH, zG _ _ _ _]) rfl ?_
        refine z_seq (S' := zi _ :: _) rfl ?_
        refine z_if_neB F (tgt := 39) dX6_lists_33 (by decide) (fun c_33 => ?_) (fun c_33 => ?_)
        · have hlt : l.length < (prs n f).length := by rw [hl]; exact pre_len ha hab (by omega) c_33
          refine z_aload_n F dX6_lists_39 rfl ?_
          refine z_ma F rfl 21 rfl (Nat.le_of_ble_eq_true rfl) rfl q1501 dX6_lists_40 ?_
          refine z_aload_n F dX6_lists_43 rfl ?_
          refine z_mi F rfl 20 rfl (Nat.le_of_ble_eq_true rfl) rfl q1500 dX6_lists_44 ?_
          refine z_ieq ((show _ = nI l.length from rfl)) ?_
          refine z_iload_n F dX6_lists_47 rfl ?_
          refine z_iastGN F rfl rfl (Nat.le_of_ble_eq_true rfl) (by omega) dX6_lists_48 ?_
          refine z_weq (w' := [_, _]) rfl ?_
          refine z_aload_n F dX6_lists_49 rfl ?_
          refine z_ma F rfl 22 rfl (Nat.le_of_ble_eq_true rfl) rfl q1502 dX6_lists_50 ?_
          refine z_aload_n F dX6_lists_53 rfl ?_
          refine z_mi F rfl 20 rfl (Nat.le_of_ble_eq_true rfl) rfl q1500 dX6_lists_54 ?_
          refine z_ieq ((show _ = nI l.length from rfl)) ?_
          refine z_iload_n F dX6_lists_57 rfl ?_
          refine z_iastGN F rfl rfl (Nat.le_of_ble_eq_true rfl) (by omega) dX6_lists_58 ?_
          refine z_weq (w' := [_, _]) rfl ?_
          refine z_aload_n F dX6_lists_59 rfl ?_
          refine z_dup F dX6_lists_60 rfl ?_
          refine z_mi F rfl 20 rfl (Nat.le_of_ble_eq_true rfl) rfl q1500 dX6_lists_61 ?_
          refine z_ieq ((show _ = nI l.length from rfl)) ?_
          refine z_iconst F (nI 1) dX6_lists_64 rfl ?_
          refine z_iaddN F dX6_lists_65 ?_
          refine z_pmi F rfl 20 rfl (Nat.le_of_ble_eq_true rfl) rfl q1500 rfl rfl rfl dX6_lists_66 ?_
          refine z_weq (w' := [_, _]) rfl ?_
          refine z_weq (w' := [zH, zG (upd F0 20 (nI (l ++ [(a, b)]).length)) G (zup2 (zup2 A' 21 l.length (nI a)) 22 l.length (nI b)) B]) (by rw [upd_upd]; simp) ?_
          refine z_iincN F 1 dX6_lists_69 rfl rfl ?_
          refine z_leq (L' := [_, _, _]) rfl ?_
          refine z_goto F (tgt := 19) dX6_lists_72 (by decide) ?_
          exact ih (b + 1) (l ++ [(a, b)]) _ (by rw [hl, pbs, if_pos ⟨hab, c_33⟩, List.append_assoc]) (by simp; omega) (frm_zup (frm_zup hA (by decide)) (by decide)) (hE.app (a, b)) (by omega) (by omega) (by omega) kk
        · refine z_goto F (tgt := 69) dX6_lists_36 (by decide) ?_
          refine z_iincN F 1 dX6_lists_69 rfl rfl ?_
          refine z_leq (L' := [_, _, _]) rfl ?_
          refine z_goto F (tgt := 19) dX6_lists_72 (by decide) ?_
          exact ih (b + 1) l _ (by rw [hl, pbs, if_neg (by rw [c_33]; simp)]) hl2 hA hE (by omega) (by omega) (by omega) kk
  have outer : ∀ (m a : Nat) (A' : Nat → Nat → Int32), n - a < m → a ≤ n → frm [21, 22] A A' → LnE A' (pas n f a) → Z X [some (zr 1 0), some (zi (nI a)), none] [] [zH, zG (upd F0 20 (nI (pas n f a).length)) G A' B] 0 0 7 := by
    intro m
    induction m with
    | zero => intro a A' hm; omega
    | succ m ih =>
      intro a A' hm ha hA hE
      refine z_iload_n F dX6_lists_7 rfl ?_
      refine z_aload_n F dX6_lists_8 rfl ?_
      refine z_mi F rfl 4 rfl (Nat.le_of_ble_eq_true rfl) rfl q1484 dX6_lists_9 ?_
      refine z_ieq ((show _ = nI n from h4)) ?_
      refine z_icmp_geN F (by omega) (by omega) (tgt := 81) dX6_lists_12 (by decide) (fun c_12 => ?_) (fun c_12 => ?_)
      · have ea : a = n := by omega
        subst ea
        exact z_vret F E rfl dX6_lists_81 (by omega) (by omega) (⟨rfl, A', rfl, hA, hE⟩)
      · refine z_iload_n F dX6_lists_15 rfl ?_
        refine z_iconst F (nI 1) dX6_lists_16 rfl ?_
        refine z_iaddN F dX6_lists_17 ?_
        refine z_istore_n F dX6_lists_18 (Nat.le_of_ble_eq_true rfl) ?_
        refine z_leq (L' := [_, _, _]) rfl ?_
        exact inner a (by omega) _ (a + 1) (pas n f a) _ (by rw [pbs_lo f a (a + 1) (Nat.le_refl _), List.append_nil]) (Nat.le_trans (pas_le n f (by omega)) h96) hA hE (Nat.lt_succ_self _) (by omega) (by omega) (fun A2 h1 h2 => ih (a + 1) A2 (by omega) (by omega) h1 h2)
  refine z_aload_n F dX6_lists_0 rfl ?_
  refine z_iconst F (nI 0) dX6_lists_1 rfl ?_
  refine z_pmi F rfl 20 rfl (Nat.le_of_ble_eq_true rfl) rfl q1500 rfl rfl rfl dX6_lists_2 ?_
  refine z_weq (w' := [_, _]) rfl ?_
  refine z_iconst F (nI 0) dX6_lists_5 rfl ?_
  refine z_istore_n F dX6_lists_6 (Nat.le_of_ble_eq_true rfl) ?_
  refine z_leq (L' := [_, _, _]) rfl ?_
  exact outer _ 0 _ (Nat.lt_succ_self _) (by omega) frm.rf (fun i hi => by cases hi)
end C35
