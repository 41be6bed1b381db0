theorem lv_mono {ls : Array Slot} {nL : Nat} {l l' : List (Nat × Value)} (h : lv_has ls nL l) (hl : ∀ q ∈ l', q ∈ l) : lv_has ls nL l' := ⟨h.1, h.2.1, fun q hq => h.2.2 q (hl q hq)⟩
def zcat (v : zV) : Nat := match v with
  | .inl u => u.category
  | .inr _ => 1
theorem zcat_cv (ad : Nat → Nat → Nat) (v : zV) : (zcv ad v).category = zcat v := by
  cases v with
  | inl u => rfl
  | inr q => rfl
def zk1 (o : Option (Option zV)) : Bool := match o with
  | some (some v) => zcat v == 2
  | _ => false
def zst (L : List (Option zV)) (i : Nat) (v : zV) : List (Option zV) := match i with
  | 0 => L.set 0 (some v)
  | j + 1 => (bif zk1 L[j]? then L.set j none else L).set (j + 1) (some v)
def zst2 (L : List (Option zV)) (i : Nat) (v : zV) : List (Option zV) := (zst L i v).set (i + 1) none
theorem zst_len (L : List (Option zV)) (i : Nat) (v : zV) : (zst L i v).length = L.length := by
  cases i with
  | zero => simp [zst]
  | succ j => unfold zst; cases h : zk1 L[j]? <;> simp [h]
theorem zst2_len (L : List (Option zV)) (i : Nat) (v : zV) : (zst2 L i v).length = L.length := by simp [zst2, zst_len]
theorem zst_get {L : List (Option zV)} {i k : Nat} {v v' : zV} (h : (zst L i v)[k]? = some (some v')) : (k = i ∧ v' = v) ∨ (k ≠ i ∧ L[k]? = some (some v') ∧ ¬ (k + 1 = i ∧ zcat v' = 2)) := by
  by_cases hk : k = i
  · left
    subst hk
    have : (zst L k v)[k]? = if k < L.length then some (some v) else none := by
      cases k with
      | zero => simp [zst, List.getElem?_set]
      | succ j => unfold zst; cases h : zk1 L[j]? <;> simp [h, List.getElem?_set]
    rw [this] at h
    split at h
    · simp at h; exact ⟨rfl, h.symm⟩
    · cases h
  · right
    refine ⟨hk, ?_⟩
    cases i with
    | zero =>
      unfold zst at h
      rw [List.getElem?_set_ne (by omega)] at h
      exact ⟨h, by omega⟩
    | succ j =>
      unfold zst at h
      rw [List.getElem?_set_ne (by omega)] at h
      cases hz : zk1 L[j]? with
      | true =>
        rw [hz] at h
        simp only [cond_true] at h
        by_cases hj : k = j
        · subst hj
          rw [List.getElem?_set] at h
          simp at h
        · rw [List.getElem?_set_ne (by omega)] at h
          exact ⟨h, by omega⟩
      | false =>
        rw [hz] at h
        simp only [cond_false] at h
        refine ⟨h, ?_⟩
        rintro ⟨e, e2⟩
        have : k = j := by omega
        subst this
        rw [h] at hz
        simp [zk1, e2] at hz
theorem zLh_at {ad : Nat → Nat → Nat} {ls : Array Slot} {L : List (Option zV)} (h : zLh ad ls L) {i : Nat} {v : zV} (hk : L[i]? = some (some v)) : ls[i]? = some (.val (zcv ad v)) := h.2.2 (i, zcv ad v) (zal_mem.mpr ⟨v, hk, rfl⟩)
theorem zLh_st {ad : Nat → Nat → Nat} {ls : Array Slot} {L : List (Option zV)} {i : Nat} {v : zV} (h : lv_has ls L.length ((i, zcv ad v) :: (zal ad L).filter (fun q => !(q.1 == i) && !(q.1 + 1 == i && q.2.category == 2)))) : zLh ad ls (zst L i v) := by
  unfold zLh
  rw [zst_len]
  refine lv_mono h ?_
  rintro ⟨k, u⟩ hq
  obtain ⟨v', h1, rfl⟩ := zal_mem.mp hq
  rcases zst_get h1 with ⟨rfl, rfl⟩ | ⟨h2, h3, h4⟩
  · exact List.mem_cons_self
  · refine List.mem_cons_of_mem _ (List.mem_filter.mpr ⟨zal_mem.mpr ⟨v', h3, rfl⟩, ?_⟩)
    rw [← zcat_cv ad] at h4
    simp only [Bool.and_eq_true, Bool.not_eq_true', beq_eq_false_iff_ne, ne_eq, Bool.and_eq_false_iff]
    refine ⟨h2, ?_⟩
    by_cases e : k + 1 = i
    · exact Or.inr (fun e2 => h4 ⟨e, e2⟩)
    · exact Or.inl e
theorem zLh_st2 {ad : Nat → Nat → Nat} {ls : Array Slot} {L : List (Option zV)} {i : Nat} {v : zV} (h : lv_has ls L.length ((i, zcv ad v) :: (zal ad L).filter (fun q => !(q.1 == i) && (!(q.1 == i + 1) && !(q.1 + 1 == i && q.2.category == 2))))) : zLh ad ls (zst2 L i v) := by
  unfold zLh
  rw [zst2_len]
  refine lv_mono h ?_
  rintro ⟨k, u⟩ hq
  obtain ⟨v', h1, rfl⟩ := zal_mem.mp hq
  unfold zst2 at h1
  have hk : k ≠ i + 1 := by
    intro e
    subst e
    rw [List.getElem?_set] at h1
    simp at h1
  rw [List.getElem?_set_ne (by omega)] at h1
  rcases zst_get h1 with ⟨rfl, rfl⟩ | ⟨h2, h3, h4⟩
  · exact List.mem_cons_self
  · refine List.mem_cons_of_mem _ (List.mem_filter.mpr ⟨zal_mem.mpr ⟨v', h3, rfl⟩, ?_⟩)
    rw [← zcat_cv ad] at h4
    simp only [Bool.and_eq_true, Bool.not_eq_true', beq_eq_false_iff_ne, ne_eq, Bool.and_eq_false_iff]
    refine ⟨h2, hk, ?_⟩
    by_cases e : k + 1 = i
    · exact Or.inr (fun e2 => h4 ⟨e, e2⟩)
    · exact Or.inl e

def zNok (w : Cond) : Bool := match w with
  | .fieldLinkNest _ _ _ _ _ _ => true
  | .methodLinkNest _ _ _ _ => true
  | .castable _ _ => true
  | .declares _ => true
  | .arrayOver (.array _) => true
  | .arrayOver (.object _) => true
  | _ => false
theorem zNok_warm {w : Cond} (hw : zNok w = true) {s U : State} (hW : s.WarmedH U.vm) (hZ : va_Nw w s) : va_Nw w U := by
  cases w <;> first | exact va_Nw.warmF hW hZ | exact va_Nw.warmM hW hZ | exact va_Nw.warmC hW hZ | exact va_Nw.warmD hW hZ | cases hw | (rename_i t; cases t <;> first | exact over_moved (a := #[]) (a' := #[]) hW.alike hZ | exact va_AO.moved hW.alike hZ | cases hw)
/-- the tables' words that ride in no list, and hold all through a run -/
def zNest : List Cond := lw_tbl.filter zNok
theorem zNest_of {w : Cond} (h : w ∈ lw_tbl) (hw : zNok w = true) : w ∈ zNest := List.mem_filter.mpr ⟨h, hw⟩
/-- the String constants of the reader: their entries, texts, lengths, bytes -/
def ksK : List Nat := [133, 141, 111, 113, 115, 117, 119]
def ksT : List String := ["knots", "degree", "row", "ring", "all", "sta\x72", "off"]
def ksN : List Nat := [5, 6, 3, 4, 3, 4, 3]
def ksB : List (List Int32) := [[107, 110, 111, 116, 115], [100, 101, 103, 114, 101, 101], [114, 111, 119], [114, 105, 110, 103], [97, 108, 108], [115, 116, 97, 114], [111, 102, 102]]
/-- the list's methods, called by the interface's -/
def fwL : List (String × String) := [("clea\x72", "()V"), ("add", "(Ljava/lang/Object;)Z"), ("get", "(I)Ljava/lang/Object;"), ("size", "()I")]
/-- constants at addresses told by D: the boxed ints, the empty list's array, the texts -/
def zCon (D : va_G) (A : Nat → Prop) (U : State) (H : Heap) : Prop :=
  va_Z "java/lang/Integer$IntegerCache" "high" "I" (.int 127) A U H ∧ va_Z "java/lang/Integer$IntegerCache" "cache" "[Ljava/lang/Integer;" (.ref (D.2 1001 0)) A U H ∧ va_T (.object "java/lang/Intege\x72") (D.2 1001 0) 256 (fun k => .ref (D.2 1000 k)) A U H ∧ vb_C (D.2 1000) A U H ∧
  va_Z "java/util/ArrayList" "DEFAULTCAPACITY_EMPTY_ELEMENTDATA" "[Ljava/lang/Object;" (.ref (D.2 1001 1)) A U H ∧ va_T (.object "java/lang/Object") (D.2 1001 1) 0 (fun _ => .null) A U H ∧ va_Z "java/lang/String" "COMPACT_STRINGS" "Z" (.int 1) A U H ∧ va_Zq "jdk/internal/util/Preconditions" "SIOOBE_FORMATTER" "Ljava/util/function/BiFunction;" A U H ∧
  vk_S 7 ksN ksB (D.2 1002) (D.2 1003) A U H ∧ (∀ i, i < 7 → vk_R "WiredNets$Reade\x72" (ksK.getD i 0) (ksT.getD i "") (D.2 1002 i) U) ∧ (∀ q ∈ fwL, va_Fw "java/util/ArrayList" ⟨"java/util/List", q.1, q.2⟩ ⟨"java/util/ArrayList", q.1, q.2⟩ U) ∧ va_Nc "java/lang/IllegalArgumentException" "java/util/NoSuchElementException" U
theorem zCon.to {D : va_G} {A B : Nat → Prop} {s U : State} (h : zCon D A s s.heap) (hW : s.WarmedH U.vm) (e : ∀ a : Nat, a < s.heap.size → ¬ A a → U.heap[a]? = s.heap[a]?) (hAB : ∀ q, B q → A q) : zCon D B U U.heap := by
  obtain ⟨h1, h2, h3, h4, h5, h6, h7, h8, h9, h10, h11, h12⟩ := h
  exact ⟨((h1.kept e).moved hW.alike).narrow hAB, ((h2.kept e).moved hW.alike).narrow hAB, ((h3.kept e).moved hW.alike).narrow hAB, ((h4.kept e).moved hW.alike).narrow hAB, ((h5.kept e).moved hW.alike).narrow hAB, ((h6.kept e).moved hW.alike).narrow hAB, ((h7.kept e).moved hW.alike).narrow hAB, ((h8.kept e).moved hW.alike).narrow hAB, ((h9.kept e).moved hW.alike).narrow hAB, fun i hi => (h10 i hi).warm hW, (fun q hq => va_Fw.moved ⟨fun z => by (have z : "java/util/List" = "java/lang/invoke/MethodHandle" := z); revert z; decide, fun z => by (have z : "java/util/List" = "java/lang/invoke/VarHandle" := z); revert z; decide⟩ hW.alike (h11 q hq)), h12.moved hW.alike⟩
theorem zCon.calling {D : va_G} {A : Nat → Prop} {U E : State} (hv : E.vm = U.vm) (hh : E.heap = U.heap) (ha : U.vm.Alike E.vm) (h : zCon D A U U.heap) : zCon D A E E.heap := by
  obtain ⟨h1, h2, h3, h4, h5, h6, h7, h8, h9, h10, h11, h12⟩ := h
  rw [hh]
  exact ⟨h1.moved ha, h2.moved ha, h3.moved ha, h4.moved ha, h5.moved ha, h6.moved ha, h7.moved ha, h8.moved ha, h9.moved ha, fun i hi => (h10 i hi).same hv, (fun q hq => va_Fw.moved ⟨fun z => by (have z : "java/util/List" = "java/lang/invoke/MethodHandle" := z); revert z; decide, fun z => by (have z : "java/util/List" = "java/lang/invoke/VarHandle" := z); revert z; decide⟩ ha (h11 q hq)), h12.moved ha⟩
/-- what holds of the statics and the launch, all through a run -/
def zSt (D : va_G) (A : Nat → Prop) (l : Launch) (s : State) : Prop :=
  l.stackTraces = false ∧ (∀ w ∈ zNest, va_Nw w s) ∧ vx_Zq Bundle.tN "UNASSIGNED_STACK" Bundle.steD A s s.heap ∧ vx_Zq Bundle.tN "SUPPRESSED_SENTINEL" Bundle.listD A s s.heap ∧ zCon D A s s.heap
theorem zSt_to {D : va_G} {A B : Nat → Prop} {l : Launch} {s U : State} {H : Heap} {locs : List Loc} (h : zSt D A l s) (hW : s.WarmedH U.vm) (hS : va_S A s.heap H locs) (hU : U.heap = H) (hAB : ∀ q, B q → A q) : zSt D B l U := by
  obtain ⟨h1, h2, h3, h4, h5⟩ := h
  have e : ∀ a : Nat, a < s.heap.size → ¬ A a → U.heap[a]? = s.heap[a]? := fun a x y => by rw [hU]; exact hS.2.1 a x y
  exact ⟨h1, fun w hw => zNok_warm (List.mem_filter.mp hw).2 hW (h2 w hw), ((h3.kept e).moved hW.alike).narrow hAB, ((h4.kept e).moved hW.alike).narrow hAB, h5.to hW e hAB⟩
def zFix (X : zX) (cc : ByteArray) (own : String) (ret : Option FieldType) (nL d mc ms nw : Nat) (np : Bool) : Prop :=
  X.1.1.tables.exec = Jvm.exec ∧ X.1.2.2.2.2.2.2.2.2.2.code = cc ∧ X.1.2.2.2.2.1.vm.findClass own = some X.1.2.2.2.2.2.1.cls ∧ (∀ w ∈ lw_all, w.before X.1.2.2.2.2.2.2.1 X.1.2.2.2.2.1 = true) ∧ va_K X.2.2.1 zcl (zts X.2.2.2.1) X.1.2.2.2.2.1 ∧ (∀ q, X.1.2.2.2.2.1.heap.size ≤ q → X.2.2.2.2.1 q) ∧ X.1.2.2.2.2.2.2.2.2.1.locks = false ∧ X.1.2.2.2.2.2.2.2.2.1.sig.returnType = ret ∧ X.1.2.2.2.2.2.2.2.2.2.maxLocals = nL ∧ X.1.2.2.2.1 = ({ frames := d, cells := mc, slots := ms, locals := 60 * d } : Room) ∧ zSt X.2.2.1 X.2.2.2.2.1 X.1.2.1 X.1.2.2.2.2.1 ∧ X.2.2.2.2.2.2.length = nw ∧ zisP X.2.2.2.2.2.2 = np

section ZR
variable {X : zX} {cc : ByteArray} {own : String} {ret : Option FieldType} {nL d mc ms nw : Nat} {np : Bool} {L : List (Option zV)} {S : List zV} {w : List zE} {k n pc : Nat}
theorem z_iconst (F : zFix X cc own ret nL d mc ms nw np) {n0 : Int} (v : Int32) (hd : decode cc pc = .ok (.iconst n0, 1)) (hv : Int32.ofInt n0 = v) (kk : Z X L (zi v :: S) w k n (pc + 1)) : Z X L S w k n pc := fun ad H locs ls h0 h1 h2 h3 h4 => lv_iconst F.1 F.2.1 hd hv (kk ad H locs ls h0 h1 h2 h3 h4)
theorem z_bipush (F : zFix X cc own ret nL d mc ms nw np) {n0 : Int} (v : Int32) (hd : decode cc pc = .ok (.bipush n0, 2)) (hv : (Int8.ofInt n0).toInt32 = v) (kk : Z X L (zi v :: S) w k n (pc + 2)) : Z X L S w k n pc := fun ad H locs ls h0 h1 h2 h3 h4 => lv_bipush F.1 F.2.1 hd hv (kk ad H locs ls h0 h1 h2 h3 h4)
theorem z_sipush (F : zFix X cc own ret nL d mc ms nw np) {n0 : Int} (v : Int32) (hd : decode cc pc = .ok (.sipush n0, 3)) (hv : (Int16.ofInt n0).toInt32 = v) (kk : Z X L (zi v :: S) w k n (pc + 3)) : Z X L S w k n pc := fun ad H locs ls h0 h1 h2 h3 h4 => lv_sipush F.1 F.2.1 hd hv (kk ad H locs ls h0 h1 h2 h3 h4)
theorem z_lconst (F : zFix X cc own ret nL d mc ms nw np) {n0 : Fin 2} (v : Int64) (hd : decode cc pc = .ok (.lconst n0, 1)) (hv : Int64.ofNat (n0 : Nat) = v) (kk : Z X L (zl v :: S) w k n (pc + 1)) : Z X L S w k n pc := fun ad H locs ls h0 h1 h2 h3 h4 => lv_lconst F.1 F.2.1 hd hv (kk ad H locs ls h0 h1 h2 h3 h4)
theorem z_null (F : zFix X cc own ret nL d mc ms nw np) (hd : decode cc pc = .ok (.aconst_null, 1)) (kk : Z X L (zn :: S) w k n (pc + 1)) : Z X L S w k n pc := fun ad H locs ls h0 h1 h2 h3 h4 => lv_null F.1 F.2.1 hd (kk ad H locs ls h0 h1 h2 h3 h4)
theorem z_iload_n (F : zFix X cc own ret nL d mc ms nw np) {j : Fin 4} {x : Int32} (hd : decode cc pc = .ok (.iload_n j, 1)) (hl : L[(j : Nat)]? = some (some (.inl (.int x)))) (kk : Z X L (.inl (.int x) :: S) w k n (pc + 1)) : Z X L S w k n pc := fun ad H locs ls h0 h1 h2 h3 h4 => lv_iload_n F.1 F.2.1 hd rfl (zLh_at h4 hl) (kk ad H locs ls h0 h1 h2 h3 h4)
theorem z_iload (F : zFix X cc own ret nL d mc ms nw np) {j : Nat} {x : Int32} (hd : decode cc pc = .ok (.iload j, 2)) (hl : L[j]? = some (some (.inl (.int x)))) (kk : Z X L (.inl (.int x) :: S) w k n (pc + 2)) : Z X L S w k n pc := fun ad H locs ls h0 h1 h2 h3 h4 => lv_iload F.1 F.2.1 hd (zLh_at h4 hl) (kk ad H locs ls h0 h1 h2 h3 h4)
theorem z_lload_n (F : zFix X cc own ret nL d mc ms nw np) {j : Fin 4} {x : Int64} (hd : decode cc pc = .ok (.lload_n j, 1)) (hl : L[(j : Nat)]? = some (some (.inl (.long x)))) (kk : Z X L (.inl (.long x) :: S) w k n (pc + 1)) : Z X L S w k n pc := fun ad H locs ls h0 h1 h2 h3 h4 => lv_lload_n F.1 F.2.1 hd rfl (zLh_at h4 hl) (kk ad H locs ls h0 h1 h2 h3 h4)
theorem z_lload (F : zFix X cc own ret nL d mc ms nw np) {j : Nat} {x : Int64} (hd : decode cc pc = .ok (.lload j, 2)) (hl : L[j]? = some (some (.inl (.long x)))) (kk : Z X L (.inl (.long x) :: S) w k n (pc + 2)) : Z X L S w k n pc := fun ad H locs ls h0 h1 h2 h3 h4 => lv_lload F.1 F.2.1 hd (zLh_at h4 hl) (kk ad H locs ls h0 h1 h2 h3 h4)
theorem z_aload_n (F : zFix X cc own ret nL d mc ms nw np) {j : Fin 4} {x : Nat × Nat} (hd : decode cc pc = .ok (.aload_n j, 1)) (hl : L[(j : Nat)]? = some (some (.inr x))) (kk : Z X L (.inr x :: S) w k n (pc + 1)) : Z X L S w k n pc := fun ad H locs ls h0 h1 h2 h3 h4 => lv_aload_n F.1 F.2.1 hd rfl (zLh_at h4 hl) (kk ad H locs ls h0 h1 h2 h3 h4)
theorem z_aload (F : zFix X cc own ret nL d mc ms nw np) {j : Nat} {x : Nat × Nat} (hd : decode cc pc = .ok (.aload j, 2)) (hl : L[j]? = some (some (.inr x))) (kk : Z X L (.inr x :: S) w k n (pc + 2)) : Z X L S w k n pc := fun ad H locs ls h0 h1 h2 h3 h4 => lv_aload F.1 F.2.1 hd (zLh_at h4 hl) (kk ad H locs ls h0 h1 h2 h3 h4)
theorem z_aloadR (F : zFix X cc own ret nL d mc ms nw np) {j : Nat} {x : Nat} (hd : decode cc pc = .ok (.aload j, 2)) (hl : L[j]? = some (some (.inl (.ref x)))) (kk : Z X L (.inl (.ref x) :: S) w k n (pc + 2)) : Z X L S w k n pc := fun ad H locs ls h0 h1 h2 h3 h4 => lv_aload F.1 F.2.1 hd (zLh_at h4 hl) (kk ad H locs ls h0 h1 h2 h3 h4)
theorem z_aload_nR (F : zFix X cc own ret nL d mc ms nw np) {j : Fin 4} {x : Nat} (hd : decode cc pc = .ok (.aload_n j, 1)) (hl : L[(j : Nat)]? = some (some (.inl (.ref x)))) (kk : Z X L (.inl (.ref x) :: S) w k n (pc + 1)) : Z X L S w k n pc := fun ad H locs ls h0 h1 h2 h3 h4 => lv_aload_n F.1 F.2.1 hd rfl (zLh_at h4 hl) (kk ad H locs ls h0 h1 h2 h3 h4)
theorem z_istore_n (F : zFix X cc own ret nL d mc ms nw np) {j : Fin 4} {x : Int32} (hd : decode cc pc = .ok (.istore_n j, 1)) (hj : (j : Nat) < L.length) (kk : Z X (zst L j (zi x)) S w k n (pc + 1)) : Z X L (zi x :: S) w k n pc := fun ad H locs ls h0 h1 h2 h3 h4 => lv_istore_n F.1 F.2.1 hd rfl h4 hj rfl (fun ls1 hl1 => kk ad H locs ls1 h0 h1 h2 h3 (zLh_st hl1))
theorem z_istore (F : zFix X cc own ret nL d mc ms nw np) {j : Nat} {x : Int32} (hd : decode cc pc = .ok (.istore j, 2)) (hj : j < L.length) (kk : Z X (zst L j (zi x)) S w k n (pc + 2)) : Z X L (zi x :: S) w k n pc := fun ad H locs ls h0 h1 h2 h3 h4 => lv_istore F.1 F.2.1 hd h4 hj rfl (fun ls1 hl1 => kk ad H locs ls1 h0 h1 h2 h3 (zLh_st hl1))
theorem z_astore_n (F : zFix X cc own ret nL d mc ms nw np) {j : Fin 4} {x : Nat × Nat} (hd : decode cc pc = .ok (.astore_n j, 1)) (hj : (j : Nat) < L.length) (kk : Z X (zst L j (.inr x)) S w k n (pc + 1)) : Z X L (.inr x :: S) w k n pc := fun ad H locs ls h0 h1 h2 h3 h4 => lv_astore_n F.1 F.2.1 hd rfl h4 hj rfl (fun ls1 hl1 => kk ad H locs ls1 h0 h1 h2 h3 (zLh_st (v := .inr x) hl1))
theorem z_astore (F : zFix X cc own ret nL d mc ms nw np) {j : Nat} {x : Nat × Nat} (hd : decode cc pc = .ok (.astore j, 2)) (hj : j < L.length) (kk : Z X (zst L j (.inr x)) S w k n (pc + 2)) : Z X L (.inr x :: S) w k n pc := fun ad H locs ls h0 h1 h2 h3 h4 => lv_astore F.1 F.2.1 hd h4 hj rfl (fun ls1 hl1 => kk ad H locs ls1 h0 h1 h2 h3 (zLh_st (v := .inr x) hl1))
theorem z_lstore_n (F : zFix X cc own ret nL d mc ms nw np) {j : Fin 4} {x : Int64} (hd : decode cc pc = .ok (.lstore_n j, 1)) (hj : (j : Nat) + 1 < L.length) (kk : Z X (zst2 L j (zl x)) S w k n (pc + 1)) : Z X L (zl x :: S) w k n pc := fun ad H locs ls h0 h1 h2 h3 h4 => lv_lstore_n F.1 F.2.1 hd rfl h4 hj rfl (fun ls1 hl1 => kk ad H locs ls1 h0 h1 h2 h3 (zLh_st2 hl1))
theorem z_lstore (F : zFix X cc own ret nL d mc ms nw np) {j : Nat} {x : Int64} (hd : decode cc pc = .ok (.lstore j, 2)) (hj : j + 1 < L.length) (kk : Z X (zst2 L j (zl x)) S w k n (pc + 2)) : Z X L (zl x :: S) w k n pc := fun ad H locs ls h0 h1 h2 h3 h4 => lv_lstore F.1 F.2.1 hd h4 hj rfl (fun ls1 hl1 => kk ad H locs ls1 h0 h1 h2 h3 (zLh_st2 hl1))
theorem z_iinc (F : zFix X cc own ret nL d mc ms nw np) {j : Nat} {n0 : Int} {x : Int32} (v : Int32) (hd : decode cc pc = .ok (.iinc j n0, 3)) (hl : L[j]? = some (some (zi x))) (hv : x + Int32.ofInt n0 = v) (kk : Z X (zst L j (zi v)) S w k n (pc + 3)) : Z X L S w k n pc := fun ad H locs ls h0 h1 h2 h3 h4 => by
  obtain ⟨q, hq⟩ := List.getElem?_of_mem (zal_mem (ad := ad).mpr ⟨_, hl, rfl⟩)
  exact lv_iinc F.1 F.2.1 hd h4 hq hv (List.getElem?_eq_some_iff.mp hl).1 rfl (fun ls1 hl1 => kk ad H locs ls1 h0 h1 h2 h3 (zLh_st hl1))
theorem z_iadd (F : zFix X cc own ret nL d mc ms nw np) {x y : Int32} (hd : decode cc pc = .ok (.iadd, 1)) (kk : Z X L (zi (x + y) :: S) w k n (pc + 1)) : Z X L (zi y :: zi x :: S) w k n pc := fun ad H locs ls h0 h1 h2 h3 h4 => lv_iadd F.1 F.2.1 hd (kk ad H locs ls h0 h1 h2 h3 h4)
theorem z_isub (F : zFix X cc own ret nL d mc ms nw np) {x y : Int32} (hd : decode cc pc = .ok (.isub, 1)) (kk : Z X L (zi (x - y) :: S) w k n (pc + 1)) : Z X L (zi y :: zi x :: S) w k n pc := fun ad H locs ls h0 h1 h2 h3 h4 => lv_isub F.1 F.2.1 hd (kk ad H locs ls h0 h1 h2 h3 h4)
theorem z_imul (F : zFix X cc own ret nL d mc ms nw np) {x y : Int32} (hd : decode cc pc = .ok (.imul, 1)) (kk : Z X L (zi (x * y) :: S) w k n (pc + 1)) : Z X L (zi y :: zi x :: S) w k n pc := fun ad H locs ls h0 h1 h2 h3 h4 => lv_imul F.1 F.2.1 hd (kk ad H locs ls h0 h1 h2 h3 h4)
theorem z_iand (F : zFix X cc own ret nL d mc ms nw np) {x y : Int32} (hd : decode cc pc = .ok (.iand, 1)) (kk : Z X L (zi (x &&& y) :: S) w k n (pc + 1)) : Z X L (zi y :: zi x :: S) w k n pc := fun ad H locs ls h0 h1 h2 h3 h4 => lv_iand F.1 F.2.1 hd (kk ad H locs ls h0 h1 h2 h3 h4)
theorem z_ior (F : zFix X cc own ret nL d mc ms nw np) {x y : Int32} (hd : decode cc pc = .ok (.ior, 1)) (kk : Z X L (zi (x ||| y) :: S) w k n (pc + 1)) : Z X L (zi y :: zi x :: S) w k n pc := fun ad H locs ls h0 h1 h2 h3 h4 => lv_ior F.1 F.2.1 hd (kk ad H locs ls h0 h1 h2 h3 h4)
theorem z_ixor (F : zFix X cc own ret nL d mc ms nw np) {x y : Int32} (hd : decode cc pc = .ok (.ixor, 1)) (kk : Z X L (zi (x ^^^ y) :: S) w k n (pc + 1)) : Z X L (zi y :: zi x :: S) w k n pc := fun ad H locs ls h0 h1 h2 h3 h4 => lv_ixor F.1 F.2.1 hd (kk ad H locs ls h0 h1 h2 h3 h4)
theorem z_ishl (F : zFix X cc own ret nL d mc ms nw np) {x y : Int32} (hd : decode cc pc = .ok (.ishl, 1)) (kk : Z X L (zi (x <<< (y &&& 31)) :: S) w k n (pc + 1)) : Z X L (zi y :: zi x :: S) w k n pc := fun ad H locs ls h0 h1 h2 h3 h4 => lv_ishl F.1 F.2.1 hd (kk ad H locs ls h0 h1 h2 h3 h4)
theorem z_ishr (F : zFix X cc own ret nL d mc ms nw np) {x y : Int32} (hd : decode cc pc = .ok (.ishr, 1)) (kk : Z X L (zi (x >>> (y &&& 31)) :: S) w k n (pc + 1)) : Z X L (zi y :: zi x :: S) w k n pc := fun ad H locs ls h0 h1 h2 h3 h4 => lv_ishr F.1 F.2.1 hd (kk ad H locs ls h0 h1 h2 h3 h4)
theorem z_idiv (F : zFix X cc own ret nL d mc ms nw np) {x y : Int32} (hd : decode cc pc = .ok (.idiv, 1)) (hy : ¬ y = 0) (kk : Z X L (zi (x / y) :: S) w k n (pc + 1)) : Z X L (zi y :: zi x :: S) w k n pc := fun ad H locs ls h0 h1 h2 h3 h4 => lv_idiv F.1 F.2.1 hd hy (kk ad H locs ls h0 h1 h2 h3 h4)
theorem z_irem (F : zFix X cc own ret nL d mc ms nw np) {x y : Int32} (hd : decode cc pc = .ok (.irem, 1)) (hy : ¬ y = 0) (kk : Z X L (zi (x - x / y * y) :: S) w k n (pc + 1)) : Z X L (zi y :: zi x :: S) w k n pc := fun ad H locs ls h0 h1 h2 h3 h4 => lv_irem F.1 F.2.1 hd hy (kk ad H locs ls h0 h1 h2 h3 h4)
theorem z_iushr (F : zFix X cc own ret nL d mc ms nw np) {x y : Int32} (hd : decode cc pc = .ok (.iushr, 1)) (kk : Z X L (zi (x.toUInt32 >>> (y.toUInt32 &&& Int32.toUInt32 31)).toInt32 :: S) w k n (pc + 1)) : Z X L (zi y :: zi x :: S) w k n pc := fun ad H locs ls h0 h1 h2 h3 h4 => lv_iushr F.1 F.2.1 hd rfl (kk ad H locs ls h0 h1 h2 h3 h4)
theorem z_lcmp (F : zFix X cc own ret nL d mc ms nw np) {x y : Int64} (hd : decode cc pc = .ok (.lcmp, 1)) (kk : Z X L (zi (lg_cmp x y) :: S) w k n (pc + 1)) : Z X L (zl y :: zl x :: S) w k n pc := fun ad H locs ls h0 h1 h2 h3 h4 => W.lcmp F.1 F.2.1 hd (kk ad H locs ls h0 h1 h2 h3 h4)
theorem z_ineg (F : zFix X cc own ret nL d mc ms nw np) {x : Int32} (hd : decode cc pc = .ok (.ineg, 1)) (kk : Z X L (zi (-x) :: S) w k n (pc + 1)) : Z X L (zi x :: S) w k n pc := fun ad H locs ls h0 h1 h2 h3 h4 => lv_ineg F.1 F.2.1 hd (kk ad H locs ls h0 h1 h2 h3 h4)
theorem z_ladd (F : zFix X cc own ret nL d mc ms nw np) {x y : Int64} (hd : decode cc pc = .ok (.ladd, 1)) (kk : Z X L (zl (x + y) :: S) w k n (pc + 1)) : Z X L (zl y :: zl x :: S) w k n pc := fun ad H locs ls h0 h1 h2 h3 h4 => lv_ladd F.1 F.2.1 hd (kk ad H locs ls h0 h1 h2 h3 h4)
theorem z_lsub (F : zFix X cc own ret nL d mc ms nw np) {x y : Int64} (hd : decode cc pc = .ok (.lsub, 1)) (kk : Z X L (zl (x - y) :: S) w k n (pc + 1)) : Z X L (zl y :: zl x :: S) w k n pc := fun ad H locs ls h0 h1 h2 h3 h4 => lv_lsub F.1 F.2.1 hd (kk ad H locs ls h0 h1 h2 h3 h4)
theorem z_lmul (F : zFix X cc own ret nL d mc ms nw np) {x y : Int64} (hd : decode cc pc = .ok (.lmul, 1)) (kk : Z X L (zl (x * y) :: S) w k n (pc + 1)) : Z X L (zl y :: zl x :: S) w k n pc := fun ad H locs ls h0 h1 h2 h3 h4 => lv_lmul F.1 F.2.1 hd (kk ad H locs ls h0 h1 h2 h3 h4)
theorem z_land (F : zFix X cc own ret nL d mc ms nw np) {x y : Int64} (hd : decode cc pc = .ok (.land, 1)) (kk : Z X L (zl (x &&& y) :: S) w k n (pc + 1)) : Z X L (zl y :: zl x :: S) w k n pc := fun ad H locs ls h0 h1 h2 h3 h4 => lv_land F.1 F.2.1 hd (kk ad H locs ls h0 h1 h2 h3 h4)
theorem z_lor (F : zFix X cc own ret nL d mc ms nw np) {x y : Int64} (hd : decode cc pc = .ok (.lor, 1)) (kk : Z X L (zl (x ||| y) :: S) w k n (pc + 1)) : Z X L (zl y :: zl x :: S) w k n pc := fun ad H locs ls h0 h1 h2 h3 h4 => lv_lor F.1 F.2.1 hd (kk ad H locs ls h0 h1 h2 h3 h4)
theorem z_ldiv (F : zFix X cc own ret nL d mc ms nw np) {x y : Int64} (hd : decode cc pc = .ok (.ldiv, 1)) (hy : ¬ y = 0) (kk : Z X L (zl (x / y) :: S) w k n (pc + 1)) : Z X L (zl y :: zl x :: S) w k n pc := fun ad H locs ls h0 h1 h2 h3 h4 => lv_ldiv F.1 F.2.1 hd hy (kk ad H locs ls h0 h1 h2 h3 h4)
theorem z_lneg (F : zFix X cc own ret nL d mc ms nw np) {x : Int64} (hd : decode cc pc = .ok (.lneg, 1)) (kk : Z X L (zl (-x) :: S) w k n (pc + 1)) : Z X L (zl x :: S) w k n pc := fun ad H locs ls h0 h1 h2 h3 h4 => lv_lneg F.1 F.2.1 hd (kk ad H locs ls h0 h1 h2 h3 h4)
theorem z_lshl (F : zFix X cc own ret nL d mc ms nw np) {x : Int64} {y : Int32} (hd : decode cc pc = .ok (.lshl, 1)) (kk : Z X L (zl (x <<< (y.toInt64 &&& 63)) :: S) w k n (pc + 1)) : Z X L (zi y :: zl x :: S) w k n pc := fun ad H locs ls h0 h1 h2 h3 h4 => lv_lshl F.1 F.2.1 hd rfl (kk ad H locs ls h0 h1 h2 h3 h4)
theorem z_i2l (F : zFix X cc own ret nL d mc ms nw np) {x : Int32} (hd : decode cc pc = .ok (.i2l, 1)) (kk : Z X L (zl x.toInt64 :: S) w k n (pc + 1)) : Z X L (zi x :: S) w k n pc := fun ad H locs ls h0 h1 h2 h3 h4 => lv_i2l F.1 F.2.1 hd rfl (kk ad H locs ls h0 h1 h2 h3 h4)
theorem z_l2i (F : zFix X cc own ret nL d mc ms nw np) {x : Int64} (hd : decode cc pc = .ok (.l2i, 1)) (kk : Z X L (zi x.toInt32 :: S) w k n (pc + 1)) : Z X L (zl x :: S) w k n pc := fun ad H locs ls h0 h1 h2 h3 h4 => lv_l2i F.1 F.2.1 hd rfl (kk ad H locs ls h0 h1 h2 h3 h4)
theorem z_i2b (F : zFix X cc own ret nL d mc ms nw np) {x : Int32} (hd : decode cc pc = .ok (.i2b, 1)) (kk : Z X L (zi x.toInt8.toInt32 :: S) w k n (pc + 1)) : Z X L (zi x :: S) w k n pc := fun ad H locs ls h0 h1 h2 h3 h4 => lv_i2b F.1 F.2.1 hd rfl (kk ad H locs ls h0 h1 h2 h3 h4)
theorem z_dup (F : zFix X cc own ret nL d mc ms nw np) {v : zV} (hd : decode cc pc = .ok (.dup, 1)) (hv : zcat v = 1) (kk : Z X L (v :: v :: S) w k n (pc + 1)) : Z X L (v :: S) w k n pc := fun ad H locs ls h0 h1 h2 h3 h4 => lv_dup F.1 F.2.1 hd ((zcat_cv ad v).trans hv) (kk ad H locs ls h0 h1 h2 h3 h4)
theorem z_pop (F : zFix X cc own ret nL d mc ms nw np) {v : zV} (hd : decode cc pc = .ok (.pop, 1)) (hv : zcat v = 1) (kk : Z X L S w k n (pc + 1)) : Z X L (v :: S) w k n pc := fun ad H locs ls h0 h1 h2 h3 h4 => lv_pop F.1 F.2.1 hd ((zcat_cv ad v).trans hv) (kk ad H locs ls h0 h1 h2 h3 h4)
theorem z_dup2 (F : zFix X cc own ret nL d mc ms nw np) {v u : zV} (hd : decode cc pc = .ok (.dup2, 1)) (hv : zcat v = 1) (hu : zcat u = 1) (kk : Z X L (v :: u :: v :: u :: S) w k n (pc + 1)) : Z X L (v :: u :: S) w k n pc := fun ad H locs ls h0 h1 h2 h3 h4 => lv_dup2_11 F.1 F.2.1 hd ((zcat_cv ad v).trans hv) ((zcat_cv ad u).trans hu) (kk ad H locs ls h0 h1 h2 h3 h4)
theorem z_dup_x1 (F : zFix X cc own ret nL d mc ms nw np) {v u : zV} (hd : decode cc pc = .ok (.dup_x1, 1)) (hv : zcat v = 1) (hu : zcat u = 1) (kk : Z X L (v :: u :: v :: S) w k n (pc + 1)) : Z X L (v :: u :: S) w k n pc := fun ad H locs ls h0 h1 h2 h3 h4 => lv_dup_x1 F.1 F.2.1 hd ((zcat_cv ad v).trans hv) ((zcat_cv ad u).trans hu) (kk ad H locs ls h0 h1 h2 h3 h4)
theorem z_dup_x2 (F : zFix X cc own ret nL d mc ms nw np) {v u t : zV} (hd : decode cc pc = .ok (.dup_x2, 1)) (hv : zcat v = 1) (hu : zcat u = 1) (ht : zcat t = 1) (kk : Z X L (v :: u :: t :: v :: S) w k n (pc + 1)) : Z X L (v :: u :: t :: S) w k n pc := fun ad H locs ls h0 h1 h2 h3 h4 => lv_dup_x2 F.1 F.2.1 hd ((zcat_cv ad v).trans hv) ((zcat_cv ad u).trans hu) ((zcat_cv ad t).trans ht) (kk ad H locs ls h0 h1 h2 h3 h4)
theorem z_ldc (F : zFix X cc own ret nL d mc ms nw np) {j : Nat} {v : Int32} (hd : decode cc pc = .ok (.ldc j, 2)) (hc : Jvm.Cond.constant own j v ∈ lw_all) (kk : Z X L (zi v :: S) w k n (pc + 2)) : Z X L S w k n pc := fun ad H locs ls h0 h1 h2 h3 h4 => lv_ldc F.1 F.2.1 F.2.2.1 (F.2.2.2.1 _ hc) hd (kk ad H locs ls h0 h1 h2 h3 h4)
theorem z_ldcw (F : zFix X cc own ret nL d mc ms nw np) {j : Nat} {v : Int32} (hd : decode cc pc = .ok (.ldc_w j, 3)) (hc : Jvm.Cond.constant own j v ∈ lw_all) (kk : Z X L (zi v :: S) w k n (pc + 3)) : Z X L S w k n pc := fun ad H locs ls h0 h1 h2 h3 h4 => lv_ldcw F.1 F.2.1 F.2.2.1 (F.2.2.2.1 _ hc) hd (kk ad H locs ls h0 h1 h2 h3 h4)
theorem z_ldc2 (F : zFix X cc own ret nL d mc ms nw np) {j : Nat} {v : Int64} (hd : decode cc pc = .ok (.ldc2_w j, 3)) (hc : Jvm.Cond.constantLong own j v ∈ lw_all) (kk : Z X L (zl v :: S) w k n (pc + 3)) : Z X L S w k n pc := fun ad H locs ls h0 h1 h2 h3 h4 => lv_ldc2 F.1 F.2.1 F.2.2.1 (F.2.2.2.1 _ hc) hd (kk ad H locs ls h0 h1 h2 h3 h4)
theorem z_if_eq (F : zFix X cc own ret nL d mc ms nw np) {x : Int32} {off : Int} {tgt : Nat} (hd : decode cc pc = .ok (.ifCond .eq off, 3)) (ht : (pc : Int) + off = (tgt : Int)) (kt : (x = 0) → Z X L S w k n tgt) (kf : (¬ x = 0) → Z X L S w k n (pc + 3)) : Z X L (zi x :: S) w k n pc := fun ad H locs ls h0 h1 h2 h3 h4 => lv_if_eq F.1 F.2.1 hd ht (fun q => kt q ad H locs ls h0 h1 h2 h3 h4) (fun q => kf q ad H locs ls h0 h1 h2 h3 h4)
theorem z_icmp_eq (F : zFix X cc own ret nL d mc ms nw np) {x y : Int32} {off : Int} {tgt : Nat} (hd : decode cc pc = .ok (.if_icmp .eq off, 3)) (ht : (pc : Int) + off = (tgt : Int)) (kt : (x = y) → Z X L S w k n tgt) (kf : (¬ x = y) → Z X L S w k n (pc + 3)) : Z X L (zi y :: zi x :: S) w k n pc := fun ad H locs ls h0 h1 h2 h3 h4 => lv_icmp_eq F.1 F.2.1 hd ht (fun q => kt q ad H locs ls h0 h1 h2 h3 h4) (fun q => kf q ad H locs ls h0 h1 h2 h3 h4)
theorem z_if_ne (F : zFix X cc own ret nL d mc ms nw np) {x : Int32} {off : Int} {tgt : Nat} (hd : decode cc pc = .ok (.ifCond .ne off, 3)) (ht : (pc : Int) + off = (tgt : Int)) (kt : (¬ x = 0) → Z X L S w k n tgt) (kf : (x = 0) → Z X L S w k n (pc + 3)) : Z X L (zi x :: S) w k n pc := fun ad H locs ls h0 h1 h2 h3 h4 => lv_if_ne F.1 F.2.1 hd ht (fun q => kt q ad H locs ls h0 h1 h2 h3 h4) (fun q => kf q ad H locs ls h0 h1 h2 h3 h4)
theorem z_icmp_ne (F : zFix X cc own ret nL d mc ms nw np) {x y : Int32} {off : Int} {tgt : Nat} (hd : decode cc pc = .ok (.if_icmp .ne off, 3)) (ht : (pc : Int) + off = (tgt : Int)) (kt : (¬ x = y) → Z X L S w k n tgt) (kf : (x = y) → Z X L S w k n (pc + 3)) : Z X L (zi y :: zi x :: S) w k n pc := fun ad H locs ls h0 h1 h2 h3 h4 => lv_icmp_ne F.1 F.2.1 hd ht (fun q => kt q ad H locs ls h0 h1 h2 h3 h4) (fun q => kf q ad H locs ls h0 h1 h2 h3 h4)
theorem z_if_lt (F : zFix X cc own ret nL d mc ms nw np) {x : Int32} {off : Int} {tgt : Nat} (hd : decode cc pc = .ok (.ifCond .lt off, 3)) (ht : (pc : Int) + off = (tgt : Int)) (kt : (x < 0) → Z X L S w k n tgt) (kf : (¬ x < 0) → Z X L S w k n (pc + 3)) : Z X L (zi x :: S) w k n pc := fun ad H locs ls h0 h1 h2 h3 h4 => lv_if_lt F.1 F.2.1 hd ht (fun q => kt q ad H locs ls h0 h1 h2 h3 h4) (fun q => kf q ad H locs ls h0 h1 h2 h3 h4)
theorem z_icmp_lt (F : zFix X cc own ret nL d mc ms nw np) {x y : Int32} {off : Int} {tgt : Nat} (hd : decode cc pc = .ok (.if_icmp .lt off, 3)) (ht : (pc : Int) + off = (tgt : Int)) (kt : (x < y) → Z X L S w k n tgt) (kf : (¬ x < y) → Z X L S w k n (pc + 3)) : Z X L (zi y :: zi x :: S) w k n pc := fun ad H locs ls h0 h1 h2 h3 h4 => lv_icmp_lt F.1 F.2.1 hd ht (fun q => kt q ad H locs ls h0 h1 h2 h3 h4) (fun q => kf q ad H locs ls h0 h1 h2 h3 h4)
theorem z_if_ge (F : zFix X cc own ret nL d mc ms nw np) {x : Int32} {off : Int} {tgt : Nat} (hd : decode cc pc = .ok (.ifCond .ge off, 3)) (ht : (pc : Int) + off = (tgt : Int)) (kt : (0 ≤ x) → Z X L S w k n tgt) (kf : (¬ 0 ≤ x) → Z X L S w k n (pc + 3)) : Z X L (zi x :: S) w k n pc := fun ad H locs ls h0 h1 h2 h3 h4 => lv_if_ge F.1 F.2.1 hd ht (fun q => kt q ad H locs ls h0 h1 h2 h3 h4) (fun q => kf q ad H locs ls h0 h1 h2 h3 h4)
theorem z_icmp_ge (F : zFix X cc own ret nL d mc ms nw np) {x y : Int32} {off : Int} {tgt : Nat} (hd : decode cc pc = .ok (.if_icmp .ge off, 3)) (ht : (pc : Int) + off = (tgt : Int)) (kt : (y ≤ x) → Z X L S w k n tgt) (kf : (¬ y ≤ x) → Z X L S w k n (pc + 3)) : Z X L (zi y :: zi x :: S) w k n pc := fun ad H locs ls h0 h1 h2 h3 h4 => lv_icmp_ge F.1 F.2.1 hd ht (fun q => kt q ad H locs ls h0 h1 h2 h3 h4) (fun q => kf q ad H locs ls h0 h1 h2 h3 h4)
theorem z_if_gt (F : zFix X cc own ret nL d mc ms nw np) {x : Int32} {off : Int} {tgt : Nat} (hd : decode cc pc = .ok (.ifCond .gt off, 3)) (ht : (pc : Int) + off = (tgt : Int)) (kt : (0 < x) → Z X L S w k n tgt) (kf : (¬ 0 < x) → Z X L S w k n (pc + 3)) : Z X L (zi x :: S) w k n pc := fun ad H locs ls h0 h1 h2 h3 h4 => lv_if_gt F.1 F.2.1 hd ht (fun q => kt q ad H locs ls h0 h1 h2 h3 h4) (fun q => kf q ad H locs ls h0 h1 h2 h3 h4)
theorem z_icmp_gt (F : zFix X cc own ret nL d mc ms nw np) {x y : Int32} {off : Int} {tgt : Nat} (hd : decode cc pc = .ok (.if_icmp .gt off, 3)) (ht : (pc : Int) + off = (tgt : Int)) (kt : (y < x) → Z X L S w k n tgt) (kf : (¬ y < x) → Z X L S w k n (pc + 3)) : Z X L (zi y :: zi x :: S) w k n pc := fun ad H locs ls h0 h1 h2 h3 h4 => lv_icmp_gt F.1 F.2.1 hd ht (fun q => kt q ad H locs ls h0 h1 h2 h3 h4) (fun q => kf q ad H locs ls h0 h1 h2 h3 h4)
theorem z_if_le (F : zFix X cc own ret nL d mc ms nw np) {x : Int32} {off : Int} {tgt : Nat} (hd : decode cc pc = .ok (.ifCond .le off, 3)) (ht : (pc : Int) + off = (tgt : Int)) (kt : (x ≤ 0) → Z X L S w k n tgt) (kf : (¬ x ≤ 0) → Z X L S w k n (pc + 3)) : Z X L (zi x :: S) w k n pc := fun ad H locs ls h0 h1 h2 h3 h4 => lv_if_le F.1 F.2.1 hd ht (fun q => kt q ad H locs ls h0 h1 h2 h3 h4) (fun q => kf q ad H locs ls h0 h1 h2 h3 h4)
theorem z_icmp_le (F : zFix X cc own ret nL d mc ms nw np) {x y : Int32} {off : Int} {tgt : Nat} (hd : decode cc pc = .ok (.if_icmp .le off, 3)) (ht : (pc : Int) + off = (tgt : Int)) (kt : (x ≤ y) → Z X L S w k n tgt) (kf : (¬ x ≤ y) → Z X L S w k n (pc + 3)) : Z X L (zi y :: zi x :: S) w k n pc := fun ad H locs ls h0 h1 h2 h3 h4 => lv_icmp_le F.1 F.2.1 hd ht (fun q => kt q ad H locs ls h0 h1 h2 h3 h4) (fun q => kf q ad H locs ls h0 h1 h2 h3 h4)
theorem z_goto (F : zFix X cc own ret nL d mc ms nw np) {off : Int} {tgt : Nat} (hd : decode cc pc = .ok (.goto off, 3)) (ht : (pc : Int) + off = (tgt : Int)) (kk : Z X L S w k n tgt) : Z X L S w k n pc := fun ad H locs ls h0 h1 h2 h3 h4 => lv_goto F.1 F.2.1 hd ht (kk ad H locs ls h0 h1 h2 h3 h4)
theorem z_ifnull (F : zFix X cc own ret nL d mc ms nw np) {q : Nat × Nat} {off : Int} (hd : decode cc pc = .ok (.ifnull off, 3)) (kk : Z X L S w k n (pc + 3)) : Z X L (.inr q :: S) w k n pc := fun ad H locs ls h0 h1 h2 h3 h4 => lv_ifnull F.1 F.2.1 hd (kk ad H locs ls h0 h1 h2 h3 h4)
theorem z_ifnullN (F : zFix X cc own ret nL d mc ms nw np) {off : Int} {tgt : Nat} (hd : decode cc pc = .ok (.ifnull off, 3)) (ht : (pc : Int) + off = (tgt : Int)) (kk : Z X L S w k n tgt) : Z X L (zn :: S) w k n pc := fun ad H locs ls h0 h1 h2 h3 h4 => lv_ifnullN F.1 F.2.1 hd ht (kk ad H locs ls h0 h1 h2 h3 h4)
theorem z_iname {x : Int32} (kk : ∀ y : Int32, y = x → Z X L (zi y :: S) w k n pc) : Z X L (zi x :: S) w k n pc := kk x rfl
theorem z_lname {x : Int64} (kk : ∀ y : Int64, y = x → Z X L (zl y :: S) w k n pc) : Z X L (zl x :: S) w k n pc := kk x rfl
theorem z_ieq {x y : Int32} (h : x = y) (kk : Z X L (zi y :: S) w k n pc) : Z X L (zi x :: S) w k n pc := h ▸ kk
theorem z_weq {w' : List zE} (h : w = w') (kk : Z X L S w' k n pc) : Z X L S w k n pc := h ▸ kk
theorem z_widen {k' n' : Nat} (h1 : k ≤ k') (h2 : n ≤ n') (kk : Z X L S w k' n' pc) : Z X L S w k n pc := fun ad H locs ls a0 a1 a2 a3 a4 => W.widen h1 h2 (kk ad H locs ls a0 a1 a2 a3 a4)
/-- fewer locals are known -/
def zle : List (Option zV) → List (Option zV) → Prop
  | [], [] => True
  | none :: a, _ :: b => zle a b
  | some v :: a, o :: b => o = some v ∧ zle a b
  | _, _ => False
theorem zle_len : ∀ {a b : List (Option zV)}, zle a b → a.length = b.length
  | [], [], _ => rfl
  | none :: a, _ :: b, h => congrArg (· + 1) (zle_len (a := a) (b := b) h)
  | some v :: a, _ :: b, h => congrArg (· + 1) (zle_len (a := a) (b := b) h.2)
  | [], _ :: _, h => h.elim
  | none :: _, [], h => h.elim
  | some _ :: _, [], h => h.elim
theorem zle_get : ∀ {a b : List (Option zV)} {i : Nat} {v : zV}, zle a b → a[i]? = some (some v) → b[i]? = some (some v)
  | [], _, _, _, _, h2 => by simp at h2
  | none :: a, [], _, _, h, _ => h.elim
  | some _ :: a, [], _, _, h, _ => h.elim
  | none :: a, _ :: b, i, v, h, h2 => by
    cases i with
    | zero => simp at h2
    | succ i => rw [List.getElem?_cons_succ] at h2 ⊢; exact zle_get (a := a) (b := b) h h2
  | some u :: a, _ :: b, i, v, h, h2 => by
    cases i with
    | zero => rw [List.getElem?_cons_zero] at h2 ⊢; rw [h.1]; exact h2
    | succ i => rw [List.getElem?_cons_succ] at h2 ⊢; exact zle_get (a := a) (b := b) h.2 h2
theorem z_loc (L' : List (Option zV)) (h : zle L' L) (kk : Z X L' S w k n pc) : Z X L S w k n pc := fun ad H locs ls h0 h1 h2 h3 h4 => kk ad H locs ls h0 h1 h2 h3 (by
  unfold zLh
  rw [zle_len h]
  refine lv_mono h4 ?_
  rintro ⟨i, u⟩ hq
  obtain ⟨v, q1, rfl⟩ := zal_mem.mp hq
  exact zal_mem.mpr ⟨v, zle_get h q1, rfl⟩)
end ZR
