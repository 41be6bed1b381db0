section ZMU1
def zadM (ad : Nat → Nat → Nat) (N a : Nat) : Nat → Nat → Nat := fun p j => if p = N then a + j else ad p j
theorem zadM_lo {ad : Nat → Nat → Nat} {N a : Nat} : ∀ p j, p < N → zadM ad N a p j = ad p j := fun p j h => by simp [zadM, Nat.ne_of_lt h]
theorem zadM_at {ad : Nat → Nat → Nat} {N a j : Nat} : zadM ad N a N j = a + j := by simp [zadM]
theorem zRel.newM {D : va_G} {cA : Nat → ClassId} {ad : Nat → Nat → Nat} {w : List zE} {H H1 : Heap} {e : zE} (hR : zRel D cA ad w H) (hw : zwf w.length w) (hn : ∀ j c', zcell w.length e j = some c' → va_at D zcl (H.size + j, zcc cA (zadM ad w.length H.size) c') H1) (ho : ∀ q : Nat, q < H.size → H1[q]? = H[q]?) : zRel D cA (zadM ad w.length H.size) (w ++ [e]) H1 := by
  intro p j c' h
  rcases zat_app h with ⟨hl, h⟩ | ⟨rfl, h⟩
  · obtain ⟨e1, h1, h2⟩ := zat_e h
    rw [zadM_lo p j hl, zcell_p hl (zwf_mem hw e1 (List.mem_of_getElem? h1)) h2 zadM_lo]
    exact (hR p j c' h).kept (ho _ (hR p j c' h).lt)
  · rw [zadM_at]
    exact hn j c' h
theorem zInj.newM {D : va_G} {cA : Nat → ClassId} {ad : Nat → Nat → Nat} {w : List zE} {H : Heap} {A : Nat → Prop} {e : zE} (hR : zRel D cA ad w H) (hI : zInj ad w A) (hA : ∀ q, H.size ≤ q → A q) : zInj (zadM ad w.length H.size) (w ++ [e]) A := by
  have key : ∀ p j c', zat (w ++ [e]) p j = some c' → (p < w.length ∧ zat w p j = some c' ∧ zadM ad w.length H.size p j = ad p j ∧ ad p j < H.size) ∨ (p = w.length ∧ zadM ad w.length H.size p j = H.size + j) := by
    intro p j c' h
    rcases zat_app h with ⟨hl, h⟩ | ⟨rfl, h⟩
    · exact Or.inl ⟨hl, h, zadM_lo p j hl, (hR p j c' h).lt⟩
    · exact Or.inr ⟨rfl, zadM_at⟩
  refine ⟨fun p j p' j' c1 c2 h1 h2 heq => ?_, fun p j c1 h1 => ?_⟩
  · rcases key _ _ _ h1 with ⟨a1, a2, a3, a4⟩ | ⟨a1, a3⟩ <;> rcases key _ _ _ h2 with ⟨b1, b2, b3, b4⟩ | ⟨b1, b3⟩
    · rw [a3, b3] at heq
      exact hI.1 _ _ _ _ _ _ a2 b2 heq
    · omega
    · omega
    · omega
  · rcases key _ _ _ h1 with ⟨a1, a2, a3, a4⟩ | ⟨a1, a3⟩
    · rw [a3]; exact hI.2 _ _ _ a2
    · rw [a3]; exact hA _ (Nat.le_add_right _ _)
theorem zAg.newM {w0 w : List zE} {ad0 ad : Nat → Nat → Nat} {a : Nat} (h : zAg w0 ad0 ad) (hl : w0.length ≤ w.length) : zAg w0 ad0 (zadM ad w.length a) := by
  intro p j hp hlt
  rw [zadM_lo p j (by omega)]
  exact h p j hp hlt
theorem zmu_o (c : ClassId) (N h0 : Nat) : ∀ i, Jvm.Free.Multi.outerC c N h0 i = { cls := c, slots := (Jvm.Free.Multi.outerC c N h0 i).slots, vm := .none }
  | 0 => rfl
  | i + 1 => by
    simp only [Jvm.Free.Multi.outerC]
    rw [zmu_o c N h0 i]
    rfl
theorem zmu_outer (c : ClassId) (N h0 : Nat) : Jvm.Free.Multi.outerC c N h0 N = arrV c N (fun j => .ref (h0 + (j + 1))) := by
  obtain ⟨f1, f2, f3⟩ := Jvm.Free.Multi.outerC_facts c N h0 N
  have f4 := fun j (hj : j < N) => Jvm.Free.Multi.outerC_slot c N h0 N j hj
  have key : (Jvm.Free.Multi.outerC c N h0 N).slots = (arrV c N (fun j => .ref (h0 + (j + 1)))).slots := by
    refine Array.ext_getElem? fun j => ?_
    by_cases hj : j < N
    · rw [f4 j hj, if_pos hj, arrV_read _ _ hj, show h0 + 1 + j = h0 + (j + 1) by omega]
    · rw [Array.getElem?_eq_none (by omega), Array.getElem?_eq_none (by rw [arrV_size]; omega)]
  rw [zmu_o, key]
  rfl
theorem zmu_inner (c : ClassId) (K : Nat) (v : Value) : Jvm.Free.Multi.innerC c K v = arrV c K (fun _ => v) := by
  rw [← arrV_new]; rfl
section ZMU2
variable {X : zX} {cc : ByteArray} {own : String} {ret : Option FieldType} {nL d mc ms nw : Nat} {np : Bool} {L : List (Option zV)} {S : List zV} {w : List zE} {k n pc idx : Nat}
def zmg (g : (Nat → Nat → Int32) ⊕ (Nat → Nat → Int64)) (i : Nat) : zC := match g with
  | .inl f => .inl (f i)
  | .inr f => .inr (.inl (f i))
theorem zmu_cell {N tA t M K : Nat} {g : (Nat → Nat → Int32) ⊕ (Nat → Nat → Int64)} {j : Nat} {c' : zc} (h : zcell N (.inr (.inr (.inl (tA, t, M, K, g)))) j = some c') :
    (j = 0 ∧ c' = .inr (tA, M, .inr (.inr (fun i => zr N (i + 1))))) ∨ ∃ i, j = i + 1 ∧ i < M ∧ c' = .inr (t, K, zmg g i) := by
  cases j with
  | zero => simp only [zcell] at h; cases h; exact Or.inl ⟨rfl, rfl⟩
  | succ i =>
    simp only [zcell] at h
    split at h
    · cases h; exact Or.inr ⟨i, rfl, by assumption, by cases g <;> rfl⟩
    · cases h
theorem z_multi (F : zFix X cc own ret nL d mc ms nw np) {tA t M K : Nat} {C : String} {ty : FieldType} {g : (Nat → Nat → Int32) ⊕ (Nat → Nat → Int64)} {i i' : Int32} (N : Nat) (hC : "[" ++ (FieldType.array ty).toString = C) (hl : Cond.classLink own idx C ∈ lw_all) (hover : Cond.arrayOver (.array ty) ∈ lw_tbl) (harr : Cond.arrayClass ty ∈ lw_all)
    (htA : ∀ cA : Nat → ClassId, (zts cA)[tA]? = some (cA tA, .array ty)) (ht : ∀ cA : Nat → ClassId, (zts cA)[t]? = some (cA t, ty)) (hprim : ∀ (s : State) (cA : ClassId), va_RA s cA ty → s.vm.findClass (FieldType.array ty).toString = some cA) (hdef : ∀ (cA : ClassId) (ad : Nat → Nat → Nat) (i : Nat), vp_cell cA (K, zcK ad (zmg g i)) = arrV cA K (fun _ => defaultValue ty))
    (hfd : fits ty (defaultValue ty) = true ∧ (defaultValue ty).isDefault = true ∧ componentBytes ty ≤ 8) (hi : ¬ i < 0) (hM : i.toNatClampNeg = M) (hi' : ¬ i' < 0) (hK : i'.toNatClampNeg = K) (hb : M ≤ 1000 ∧ K ≤ 1000) (hN : w.length = N) (hnw : nw ≤ N) (hwf : zwf N w) (hL : L.all (zoN N) = true) (hS : S.all (zokN N) = true) (hks : k + 1 + M ≤ mc ∧ n + M + M * K ≤ ms) (hd : decode cc pc = .ok (.multianewarray idx 2, 4))
    (kk : Z X L (zr N 0 :: S) (w ++ [.inr (.inr (.inl (tA, t, M, K, g)))]) (k + 1 + M) (n + M + M * K) (pc + 4)) : Z X L (zi i' :: zi i :: S) w k n pc := fun ad H locs ls h0 h1 h2 h3 h4 => by
  subst hN
  subst hM
  subst hK
  intro T hT X0
  subst hT
  have hov : (Cond.arrayOver (.array ty)).before X.1.2.2.2.2.2.2.1 X.1.2.2.2.2.1 = true := over_moved (a := #[]) (Vm.Alike.refl _) (F.2.2.2.2.2.2.2.2.2.2.1.2.1 _ (zNest_of hover rfl))
  have cb := hfd.2.2
  have kb : i'.toNatClampNeg * componentBytes ty ≤ 536870912 := Nat.le_trans (Nat.mul_le_mul hb.2 cb) (by omega)
  obtain ⟨vm₁, cA, comp, hW, hfA, hfC, hO, hI, X1, st⟩ := X0.multianewarray2F F.1 (own := own) (index := idx) (ty := ty) F.2.2.1 (by rw [hC]; exact F.2.2.2.1 _ hl) hov (F.2.2.2.1 _ harr) (g := F0 X.1.2.2.2.2.2.1 pc ls ((zi i' :: zi i :: S).map (zcv ad))) rfl (by rw [F.2.1]; exact hd) (n := i) (k := i') (rest := S.map (zcv ad)) rfl hi hi'
    (by omega) kb (by omega) hfd.1 hfd.2.1 (by rw [F.2.2.2.2.2.2.2.2.2.1]; show k + (1 + _) ≤ mc; omega) (by rw [F.2.2.2.2.2.2.2.2.2.1]; show n + (_ + _) ≤ ms; omega)
  obtain ⟨f1, f2, f3, f4⟩ := Jvm.Free.Multi.fill_facts (T.setVm vm₁) cA comp i.toNatClampNeg i'.toNatClampNeg (defaultValue ty) i.toNatClampNeg
  have fo := fun (a : Addr) (ha : a < T.heap.size) => Jvm.Free.Multi.fill_old (T.setVm vm₁) cA comp i.toNatClampNeg i'.toNatClampNeg (defaultValue ty) (a := a) ha i.toNatClampNeg
  have fi := fun (j : Nat) (hj : j < i.toNatClampNeg) => Jvm.Free.Multi.fill_inner (T.setVm vm₁) cA comp i.toNatClampNeg i'.toNatClampNeg (defaultValue ty) i.toNatClampNeg j hj
  have hcA : cA = X.2.2.2.1 tA := Option.some.inj (hfA.symm.trans (F.2.2.2.2.1.2 tA _ (htA _)).2)
  have hcm : comp = X.2.2.2.1 t := Option.some.inj (hfC.symm.trans (hprim _ _ (F.2.2.2.2.1.2 t _ (ht _)).2))
  subst hcA
  subst hcm
  rw [zmu_outer] at f2
  have hrel := h1.newM (H1 := (Jvm.Free.Multi.fill (T.setVm vm₁) (X.2.2.2.1 tA) (X.2.2.2.1 t) i.toNatClampNeg i'.toNatClampNeg (defaultValue ty) i.toNatClampNeg).heap) (e := .inr (.inr (.inl (tA, t, i.toNatClampNeg, i'.toNatClampNeg, g)))) hwf (fun j c' hc => by
    rcases zmu_cell hc with ⟨rfl, rfl⟩ | ⟨q, rfl, hq, rfl⟩
    · rw [zcc_K]
      refine Eq.trans f2 (congrArg some ?_)
      show _ = arrV (X.2.2.2.1 tA) i.toNatClampNeg (fun j => va_rf (zop (zcv (zadM ad w.length T.heap.size) (zr w.length (j + 1)))))
      refine congrArg (arrV _ _) (funext fun j => ?_)
      show Value.ref (T.heap.size + (j + 1)) = Value.ref (zadM ad w.length T.heap.size w.length (j + 1))
      rw [zadM_at]
    · rw [zcc_K]
      show _ = some (vp_cell _ (_, zcK _ (zmg g q)))
      rw [hdef, ← zmu_inner, ← fi q hq]
      show _[T.heap.size + (q + 1)]? = _[T.heap.size + 1 + q]?
      rw [show T.heap.size + (q + 1) = T.heap.size + 1 + q by omega]) (fun q hq => fo q hq)
  have hinj := zInj.newM (e := .inr (.inr (.inl (tA, t, i.toNatClampNeg, i'.toNatClampNeg, g)))) h1 h2 (fun q hq => F.2.2.2.2.2.1 q (Nat.le_trans h3.1 hq))
  have hh := kk (zadM ad w.length T.heap.size) _ locs ls (h0.newM (by rw [F.2.2.2.2.2.2.2.2.2.2.2.1]; exact hnw)) hrel hinj ⟨by rw [f1]; exact Nat.le_trans h3.1 (by show T.heap.size ≤ T.heap.size + 1 + _; omega), fun q x y => (fo q (Nat.lt_of_lt_of_le x h3.1)).trans (h3.2.1 q x y), h3.2.2⟩ (by unfold zLh; rw [zal_eq zadM_lo hL]; exact h4)
  rw [List.map_cons, zS_eq zadM_lo hS, show zcv (zadM ad w.length T.heap.size) (zr w.length 0) = Value.ref T.heap.size by simp [zcv, zadM]] at hh
  obtain ⟨t1, a1, b1⟩ := hh _ rfl X1
  exact ⟨t1, st t1 a1, b1⟩
theorem z_multiI (F : zFix X cc own ret nL d mc ms nw np) {i i' : Int32} (M K N : Nat) (hl : Cond.classLink own idx "[[I" ∈ lw_all) (hover : Cond.arrayOver (.array .int) ∈ lw_tbl) (harr : Cond.arrayClass .int ∈ lw_all) (hi : ¬ i < 0) (hM : i.toNatClampNeg = M) (hi' : ¬ i' < 0) (hK : i'.toNatClampNeg = K) (hb : M ≤ 1000 ∧ K ≤ 1000) (hN : w.length = N) (hnw : nw ≤ N) (hwf : zwf N w) (hL : L.all (zoN N) = true) (hS : S.all (zokN N) = true) (hks : k + 1 + M ≤ mc ∧ n + M + M * K ≤ ms) (hd : decode cc pc = .ok (.multianewarray idx 2, 4))
    (kk : Z X L (zr N 0 :: S) (w ++ [zMi 4 0 M K (fun _ _ => 0)]) (k + 1 + M) (n + M + M * K) (pc + 4)) : Z X L (zi i' :: zi i :: S) w k n pc :=
  z_multi (ty := .int) F N rfl hl hover harr (fun _ => rfl) (fun _ => rfl) (fun _ _ h => h) (fun _ _ _ => rfl) ⟨rfl, rfl, by decide⟩ hi hM hi' hK hb hN hnw hwf hL hS hks hd kk
theorem z_multiJ (F : zFix X cc own ret nL d mc ms nw np) {i i' : Int32} (M K N : Nat) (hl : Cond.classLink own idx "[[J" ∈ lw_all) (hover : Cond.arrayOver (.array .long) ∈ lw_tbl) (harr : Cond.arrayClass .long ∈ lw_all) (hi : ¬ i < 0) (hM : i.toNatClampNeg = M) (hi' : ¬ i' < 0) (hK : i'.toNatClampNeg = K) (hb : M ≤ 1000 ∧ K ≤ 1000) (hN : w.length = N) (hnw : nw ≤ N) (hwf : zwf N w) (hL : L.all (zoN N) = true) (hS : S.all (zokN N) = true) (hks : k + 1 + M ≤ mc ∧ n + M + M * K ≤ ms) (hd : decode cc pc = .ok (.multianewarray idx 2, 4))
    (kk : Z X L (zr N 0 :: S) (w ++ [zMl 5 1 M K (fun _ _ => 0)]) (k + 1 + M) (n + M + M * K) (pc + 4)) : Z X L (zi i' :: zi i :: S) w k n pc :=
  z_multi (ty := .long) F N rfl hl hover harr (fun _ => rfl) (fun _ => rfl) (fun _ _ h => h) (fun _ _ _ => rfl) ⟨rfl, rfl, by decide⟩ hi hM hi' hK hb hN hnw hwf hL hS hks hd kk
theorem z_multiZ (F : zFix X cc own ret nL d mc ms nw np) {i i' : Int32} (M K N : Nat) (hl : Cond.classLink own idx "[[Z" ∈ lw_all) (hover : Cond.arrayOver (.array .boolean) ∈ lw_tbl) (harr : Cond.arrayClass .boolean ∈ lw_all) (hi : ¬ i < 0) (hM : i.toNatClampNeg = M) (hi' : ¬ i' < 0) (hK : i'.toNatClampNeg = K) (hb : M ≤ 1000 ∧ K ≤ 1000) (hN : w.length = N) (hnw : nw ≤ N) (hwf : zwf N w) (hL : L.all (zoN N) = true) (hS : S.all (zokN N) = true) (hks : k + 1 + M ≤ mc ∧ n + M + M * K ≤ ms) (hd : decode cc pc = .ok (.multianewarray idx 2, 4))
    (kk : Z X L (zr N 0 :: S) (w ++ [zMi 6 2 M K (fun _ _ => 0)]) (k + 1 + M) (n + M + M * K) (pc + 4)) : Z X L (zi i' :: zi i :: S) w k n pc :=
  z_multi (ty := .boolean) F N rfl hl hover harr (fun _ => rfl) (fun _ => rfl) (fun _ _ h => h) (fun _ _ _ => rfl) ⟨rfl, rfl, by decide⟩ hi hM hi' hK hb hN hnw hwf hL hS hks hd kk
end ZMU2
end ZMU1
