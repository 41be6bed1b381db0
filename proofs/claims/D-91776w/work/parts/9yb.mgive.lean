/-! matchings: the reference -/
section C9yb
def lsU (T : Nat → Int32) (v : Int32) : Nat → Int32
  | 0 => -1
  | k + 1 => if T k = v then nI k else lsU T v k
theorem lsU_one {T : Nat → Int32} {v : Int32} {u0 : Nat} : ∀ {k}, (∀ u, u < k → (T u = v ↔ u = u0)) → u0 < k → lsU T v k = nI u0
  | 0, _, h => absurd h (by omega)
  | k + 1, h, hk => by
    rw [lsU]
    by_cases q : T k = v
    · rw [if_pos q, (h k (by omega)).mp q]
    · rw [if_neg q]
      exact lsU_one (fun u hu => h u (by omega)) (by
        have : u0 ≠ k := fun e => q ((h k (by omega)).mpr e.symm)
        omega)
def clr (O : Nat → Option Nat) (y : Nat) : Nat → Option Nat := fun u => if u = y then none else O u
theorem clr_c {O : Nat → Option Nat} {y u z : Nat} (h : clr O y u = some z) : u ≠ y ∧ O u = some z := by
  unfold clr at h
  by_cases e : u = y
  · rw [if_pos e] at h; cases h
  · rw [if_neg e] at h; exact ⟨e, h⟩
theorem clr_ne {O : Nat → Option Nat} {y u : Nat} (h : u ≠ y) : clr O y u = O u := if_neg h
theorem clr_at {O : Nat → Option Nat} {y : Nat} : clr O y y = none := if_pos rfl
theorem mS_new {g : Nat → Nat → Bool} {S : Nat → Prop} {O : Nat → Option Nat} {x y : Nat} (h : mS g S (clr O y)) (hx : ¬ S x) (hx2 : x < 24) (hy : y < 24) (hg : g x y = true) : mS g (fun z => S z ∨ z = x) (put O y x) := by
  refine ⟨fun t z e => ?_, fun t u z e1 e2 => ?_, fun z hz => ?_⟩
  · rcases put_c e with ⟨a, b⟩ | ⟨a, b⟩
    · rw [a, b]; exact ⟨hy, hg, Or.inr rfl⟩
    · obtain ⟨p, q, r⟩ := h.1 t z (by rw [clr_ne a]; exact b)
      exact ⟨p, q, Or.inl r⟩
  · rcases put_c e1 with ⟨a, b⟩ | ⟨a, b⟩
    · rcases put_c e2 with ⟨a2, b2⟩ | ⟨a2, b2⟩
      · rw [a, a2]
      · exact absurd (by have := (h.1 u z (by rw [clr_ne a2]; exact b2)).2.2; rw [b] at this; exact this) hx
    · rcases put_c e2 with ⟨a2, b2⟩ | ⟨a2, b2⟩
      · exact absurd (by have := (h.1 t z (by rw [clr_ne a]; exact b)).2.2; rw [b2] at this; exact this) hx
      · exact h.2.1 t u z (by rw [clr_ne a]; exact b) (by rw [clr_ne a2]; exact b2)
  · by_cases e : z = x
    · rw [e]; exact ⟨hx2, y, put_at⟩
    · obtain ⟨p, t, q⟩ := h.2.2 z (hz.elim id (fun q => absurd q e))
      obtain ⟨a, b⟩ := clr_c q
      exact ⟨p, t, by rw [put_ne a]; exact b⟩
theorem mS_mv {g : Nat → Nat → Bool} {S : Nat → Prop} {O : Nat → Option Nat} {y z u0 : Nat} (h : mS g S (clr O y)) (h0 : O u0 = some z) (hu : u0 ≠ y) (hy : y < 24) (hg : g z y = true) : mS g S (clr (put O y z) u0) := by
  have h1 : clr O y u0 = some z := by rw [clr_ne hu]; exact h0
  have hSz := (h.1 u0 z h1).2.2
  refine ⟨fun t x e => ?_, fun t u x e1 e2 => ?_, fun x hx => ?_⟩
  · obtain ⟨n1, e⟩ := clr_c e
    rcases put_c e with ⟨a, b⟩ | ⟨a, b⟩
    · rw [a, b]; exact ⟨hy, hg, hSz⟩
    · exact h.1 t x (by rw [clr_ne a]; exact b)
  · obtain ⟨n1, e1⟩ := clr_c e1
    obtain ⟨n2, e2⟩ := clr_c e2
    rcases put_c e1 with ⟨a, b⟩ | ⟨a, b⟩
    · rcases put_c e2 with ⟨a2, b2⟩ | ⟨a2, b2⟩
      · rw [a, a2]
      · exact absurd (h.2.1 u u0 x (by rw [clr_ne a2]; exact b2) (by rw [b]; exact h1)) n2
    · rcases put_c e2 with ⟨a2, b2⟩ | ⟨a2, b2⟩
      · exact absurd (h.2.1 t u0 x (by rw [clr_ne a]; exact b) (by rw [b2]; exact h1)) n1
      · exact h.2.1 t u x (by rw [clr_ne a]; exact b) (by rw [clr_ne a2]; exact b2)
  · by_cases e : x = z
    · rw [e]; exact ⟨(h.2.2 z hSz).1, y, by rw [clr_ne (fun q => hu q.symm)]; exact put_at⟩
    · obtain ⟨p, t, q⟩ := h.2.2 x hx
      obtain ⟨a, b⟩ := clr_c q
      refine ⟨p, t, ?_⟩
      rw [clr_ne (fun e2 => by rw [e2, h0] at b; cases b; exact e rfl), put_ne a]; exact b
theorem mS_clr {g : Nat → Nat → Bool} {S : Nat → Prop} {O : Nat → Option Nat} {y : Nat} (h : mS g S O) (h0 : O y = none) : mS g S (clr O y) := by
  have e : clr O y = O := by
    funext u
    unfold clr
    by_cases q : u = y
    · rw [if_pos q, q, h0]
    · rw [if_neg q]
  rw [e]; exact h
/-- the goals come to so far, one behind the other -/
abbrev bqQ (g : Nat → Nat → Bool) (O : Nat → Option Nat) (x last : Nat) (W Tr : Nat → Nat) : Prop := (∀ i, i < last → W i < 24 ∧ g (Tr (W i)) (W i) = true ∧ (Tr (W i) = x ∨ ∃ i', i' < i ∧ O (W i') = some (Tr (W i)))) ∧ (∀ i j, i < last → j < last → W i = W j → i = j)
theorem c_mgives (F0 : Nat → Int32) (G : Nat → Int64) (A : Nat → Nat → Int32) (B : Nat → Nat → Int64) (g : Nat → Nat → Bool) (S : Nat → Prop) (O : Nat → Option Nat) (x last i0 : Nat) (W Tr : Nat → Nat) (hM : mS g S O) (hx : ¬ S x) (hx2 : x < 24) (hO : ∀ t, t < 24 → A 69 t = dI (O t)) (hq : bqQ g O x last W Tr) (hT : ∀ i, i < last → A 70 (W i) = nI (Tr (W i))) (hi : i0 < last) (h0 : O (W i0) = none) :
    zCtr yX6_givesWay cX6_givesWay 8 none 0 0 0 [zr 1 0, zi (nI (W i0)), zi (nI x)] [zH, zG F0 G A B] (fun r w => r = none ∧ ∃ A' O', w = [zH, zG F0 G A' B] ∧ frm [69] A A' ∧ mS g (fun z => S z ∨ z = x) O' ∧ ∀ t, t < 24 → A' 69 t = dI (O' t)) zNx := by
  refine z_start (by decide) [some (zr 1 0), some (zi (nI (W i0))), some (zi (nI x)), none, none, none, none, none] rfl (fun _ => Nat.le_of_ble_eq_true rfl) (fun _ => rfl) (fun X F E hno hin => ?_)
  have oI : ∀ {o : Option Nat} {z : Nat}, z < 24 → (∀ y, o = some y → y < 24) → (dI o = nI z ↔ o = some z) := fun {o z} hz ho => by
    rcases o with _ | y
    · exact ⟨fun e => absurd e.symm (nI_ne (by omega)), fun e => by cases e⟩
    · have := ho y rfl
      exact ⟨fun e => by rw [(nI_eq (by omega) (by omega)).mp e], fun e => by cases e; rfl⟩
  have top : ∀ (m i : Nat) (A1 : Nat → Nat → Int32) (Oc : Nat → Option Nat) (L5 L6 : Option zV), i < m → i < last → frm [69] A A1 → (∀ t, t < 24 → A1 69 t = dI (Oc t)) → (∀ i', i' ≤ i → Oc (W i') = O (W i')) → mS g S (clr Oc (W i)) → Z X [some (zr 1 0), none, some (zi (nI x)), some (zi (nI (W i))), some (zi (bI true)), none, none, none] [] [zH, zG F0 G A1 B] 0 0 5 := by
    intro m
    induction m with
    | zero => intro i A1 Oc L5 L6 hm; omega
    | succ m ih =>
      intro i A1 Oc L5 L6 hm hi hA hOc ha hb
      obtain ⟨w1, w2, w3⟩ := hq.1 i hi
      have hTi : A1 70 (W i) = nI (Tr (W i)) := by rw [hA.at 70 rfl]; exact hT i hi
      have hzb : Tr (W i) < 24 := by
        rcases w3 with e | ⟨i', _, e⟩
        · omega
        · exact (hM.2.2 _ (hM.1 _ _ e).2.2).1
      have hOb : ∀ u y, Oc u = some y → y < 24 := fun u y e => by
        by_cases q : u = W i
        · rw [q, ha i (Nat.le_refl _)] at e
          exact (hM.2.2 _ (hM.1 _ _ e).2.2).1
        · exact (hM.2.2 _ (hb.1 u y (by rw [clr_ne q]; exact e)).2.2).1
      have fin : ∀ left : Int32, (Tr (W i) ≠ x → ∃ i', i' < i ∧ left = nI (W i') ∧ Oc (W i') = some (Tr (W i))) → Z X [some (zr 1 0), none, some (zi (nI x)), some (zi (nI (W i))), none, some (zi (nI (Tr (W i)))), some (zi left), none] [] [zH, zG F0 G A1 B] 0 0 53 := by
        intro left hl
        have hA2 : frm [69] A (zup2 A1 69 (W i) (nI (Tr (W i)))) := frm_zup hA (by decide)
        have hO2 : ∀ t, t < 24 → zup2 A1 69 (W i) (nI (Tr (W i))) 69 t = dI (put Oc (W i) (Tr (W i)) t) := fun t ht => by
          rw [zup2_row]
          show (if t = W i then _ else A1 69 t) = dI (if t = W i then some (Tr (W i)) else Oc t)
          by_cases e : t = W i
          · rw [if_pos e, if_pos e]; rfl
          · rw [if_neg e, if_neg e]; exact hOc t ht
        by_cases hxx : Tr (W i) = x
        ·
          have hN := mS_new hb hx hx2 w1 (by rw [← hxx]; exact w2)
          rw [hxx] at hA2 hO2 ⊢
          refine z_aload_n F dX6_givesWay_53 rfl ?_
          refine z_ma F rfl 69 rfl (Nat.le_of_ble_eq_true rfl) rfl q1549 dX6_givesWay_54 ?_
          refine z_iload_n F dX6_givesWay_57 rfl ?_
          refine z_iload F dX6_givesWay_58 rfl ?_
          refine z_iastGN F rfl rfl (Nat.le_of_ble_eq_true rfl) (by omega) dX6_givesWay_60 ?_
          refine z_weq (w' := [_, _]) rfl ?_
          refine z_iload F dX6_givesWay_61 rfl ?_
          refine z_iload_n F dX6_givesWay_63 rfl ?_
          refine z_icmp_eqN F (by omega) (by omega) (tgt := 71) dX6_givesWay_64 (by decide) (fun c_64 => ?_) (fun c_64 => ?_)
          · refine z_iconstB F false dX6_givesWay_71 rfl ?_
            refine z_istore F dX6_givesWay_72 (Nat.le_of_ble_eq_true rfl) ?_
            refine z_leq (L' := [_, _, _, _, _, _, _, _]) rfl ?_
            refine z_iload F dX6_givesWay_74 rfl ?_
            refine z_if_eqB F (tgt := 82) dX6_givesWay_76 (by decide) (fun c_76 => ?_) (fun c_76 => ?_)
            · refine z_goto F (tgt := 5) dX6_givesWay_82 (by decide) ?_
              refine z_iload F dX6_givesWay_5 rfl ?_
              refine z_if_eqB F (tgt := 85) dX6_givesWay_7 (by decide) (fun c_7 => ?_) (fun c_7 => ?_)
              · exact z_vret F E rfl dX6_givesWay_85 (by omega) (by omega) (⟨rfl, _, put Oc (W i) x, rfl, hA2, hN, hO2⟩)
              · cases c_7
            · cases c_76
          · exact absurd rfl c_64
        obtain ⟨i', h1, rfl, h3⟩ := hl hxx
        have hne : W i' ≠ W i := fun e => by have := hq.2 i' i (by omega) hi e; omega
        have hmv := mS_mv hb h3 hne w1 w2
        refine z_aload_n F dX6_givesWay_53 rfl ?_
        refine z_ma F rfl 69 rfl (Nat.le_of_ble_eq_true rfl) rfl q1549 dX6_givesWay_54 ?_
        refine z_iload_n F dX6_givesWay_57 rfl ?_
        refine z_iload F dX6_givesWay_58 rfl ?_
        refine z_iastGN F rfl rfl (Nat.le_of_ble_eq_true rfl) (by omega) dX6_givesWay_60 ?_
        refine z_weq (w' := [_, _]) rfl ?_
        refine z_iload F dX6_givesWay_61 rfl ?_
        refine z_iload_n F dX6_givesWay_63 rfl ?_
        refine z_icmp_eqN F (by omega) (by omega) (tgt := 71) dX6_givesWay_64 (by decide) (fun c_64 => ?_) (fun c_64 => ?_)
        · exact absurd c_64 hxx
        · refine z_iconstB F true dX6_givesWay_67 rfl ?_
          refine z_goto F (tgt := 72) dX6_givesWay_68 (by decide) ?_
          refine z_istore F dX6_givesWay_72 (Nat.le_of_ble_eq_true rfl) ?_
          refine z_leq (L' := [_, _, _, _, _, _, _, _]) rfl ?_
          refine z_iload F dX6_givesWay_74 rfl ?_
          refine z_if_eqB F (tgt := 82) dX6_givesWay_76 (by decide) (fun c_76 => ?_) (fun c_76 => ?_)
          · cases c_76
          · refine z_iload F dX6_givesWay_79 rfl ?_
            refine z_istore_n F dX6_givesWay_81 (Nat.le_of_ble_eq_true rfl) ?_
            refine z_leq (L' := [_, _, _, _, _, _, _, _]) rfl ?_
            refine z_goto F (tgt := 5) dX6_givesWay_82 (by decide) ?_
            refine z_loc _ ?_ (ih i' _ (put Oc (W i) (Tr (W i))) none none (by omega) (by omega) hA2 hO2 (fun k hk => ?_) hmv)
            · exact ⟨rfl, rfl, rfl, rfl, trivial⟩
            rw [put_ne (fun e => by have := hq.2 k i (by omega) hi e; omega)]
            exact ha k (by omega)
      have inn : ∀ (u k : Nat), 24 - k < u → k ≤ 24 → Z X [some (zr 1 0), none, some (zi (nI x)), some (zi (nI (W i))), none, some (zi (nI (Tr (W i)))), some (zi (lsU (A1 69) (nI (Tr (W i))) k)), some (zi (nI k))] [] [zH, zG F0 G A1 B] 0 0 24 := by
        intro u
        induction u with
        | zero => intro k hu; omega
        | succ u ih2 =>
          intro k hu hk
          have i2 := fun z => ih2 (k + 1) (by omega) z
          rw [lsU] at i2
          refine z_iload F dX6_givesWay_24 rfl ?_
          refine z_bipush F (nI 24) dX6_givesWay_26 rfl ?_
          refine z_icmp_geN F (by omega) (by omega) (tgt := 53) dX6_givesWay_28 (by decide) (fun c_28 => ?_) (fun c_28 => ?_)
          · rw [show k = 24 by omega]
            refine z_loc _ ?_ (fin (lsU (A1 69) (nI (Tr (W i))) 24) (fun hne => ?_))
            · exact ⟨rfl, rfl, rfl, rfl, rfl, trivial⟩
            rcases w3 with e | ⟨i', h1, h2⟩
            · exact absurd e hne
            have h3 : Oc (W i') = some (Tr (W i)) := by rw [ha i' (by omega)]; exact h2
            refine ⟨i', h1, lsU_one (fun v hv => ?_) (hq.1 i' (by omega)).1, h3⟩
            rw [hOc v hv, oI hzb (fun y e => hOb v y e)]
            constructor
            · intro e
              by_cases q : v = W i
              · rw [q, ha i (Nat.le_refl _)] at e
                have h9 := hM.2.1 _ _ _ h2 e
                rw [q]; exact h9.symm
              · have hne2 : W i' ≠ W i := fun e => by have := hq.2 i' i (by omega) hi e; omega
                exact hb.2.1 v (W i') _ (by rw [clr_ne q]; exact e) (by rw [clr_ne hne2]; exact h3)
            · intro e; rw [e]; exact h3
          · refine z_aload_n F dX6_givesWay_31 rfl ?_
            refine z_ma F rfl 69 rfl (Nat.le_of_ble_eq_true rfl) rfl q1549 dX6_givesWay_32 ?_
            refine z_iload F dX6_givesWay_35 rfl ?_
            refine z_ialdGN F rfl rfl (Nat.le_of_ble_eq_true rfl) (by omega) rfl dX6_givesWay_37 ?_
            refine z_iload F dX6_givesWay_38 rfl ?_
            refine z_icmp_ne F (tgt := 47) dX6_givesWay_40 (by decide) (fun c_40 => ?_) (fun c_40 => ?_)
            · refine z_iincN F 1 dX6_givesWay_47 rfl rfl ?_
              refine z_leq (L' := [_, _, _, _, _, _, _, _]) rfl ?_
              refine z_goto F (tgt := 24) dX6_givesWay_50 (by decide) ?_
              have i2 := i2 (by omega)
              rw [if_neg c_40] at i2
              exact i2
            · refine z_iload F dX6_givesWay_43 rfl ?_
              refine z_istore F dX6_givesWay_45 (Nat.le_of_ble_eq_true rfl) ?_
              refine z_leq (L' := [_, _, _, _, _, _, _, _]) rfl ?_
              refine z_iincN F 1 dX6_givesWay_47 rfl rfl ?_
              refine z_leq (L' := [_, _, _, _, _, _, _, _]) rfl ?_
              refine z_goto F (tgt := 24) dX6_givesWay_50 (by decide) ?_
              have i2 := i2 (by omega)
              rw [if_pos c_40] at i2
              exact i2
      refine z_iload F dX6_givesWay_5 rfl ?_
      refine z_if_eqB F (tgt := 85) dX6_givesWay_7 (by decide) (fun c_7 => ?_) (fun c_7 => ?_)
      · cases c_7
      · refine z_aload_n F dX6_givesWay_10 rfl ?_
        refine z_ma F rfl 70 rfl (Nat.le_of_ble_eq_true rfl) rfl q1550 dX6_givesWay_11 ?_
        refine z_iload_n F dX6_givesWay_14 rfl ?_
        refine z_ialdGN F rfl rfl (Nat.le_of_ble_eq_true rfl) (by omega) rfl dX6_givesWay_15 ?_
        refine z_ieq (hTi) ?_
        refine z_istore F dX6_givesWay_16 (Nat.le_of_ble_eq_true rfl) ?_
        refine z_leq (L' := [_, _, _, _, _, _, _, _]) rfl ?_
        refine z_iconst F (-1) dX6_givesWay_18 rfl ?_
        refine z_istore F dX6_givesWay_19 (Nat.le_of_ble_eq_true rfl) ?_
        refine z_leq (L' := [_, _, _, _, _, _, _, _]) rfl ?_
        refine z_iconst F (nI 0) dX6_givesWay_21 rfl ?_
        refine z_istore F dX6_givesWay_22 (Nat.le_of_ble_eq_true rfl) ?_
        refine z_leq (L' := [_, _, _, _, _, _, _, _]) rfl ?_
        refine z_loc _ ?_ (inn 25 0 (by omega) (by omega))
        exact ⟨rfl, rfl, rfl, rfl, rfl, rfl, trivial⟩
  refine z_iload_n F dX6_givesWay_0 rfl ?_
  refine z_istore_n F dX6_givesWay_1 (Nat.le_of_ble_eq_true rfl) ?_
  refine z_leq (L' := [_, _, _, _, _, _, _, _]) rfl ?_
  refine z_iconst F (nI 1) dX6_givesWay_2 rfl ?_
  refine z_istore F dX6_givesWay_3 (Nat.le_of_ble_eq_true rfl) ?_
  refine z_leq (L' := [_, _, _, _, _, _, _, _]) rfl ?_
  refine z_loc _ ?_ (top (i0 + 1) i0 A O none none (by omega) hi frm.rf hO (fun _ _ => rfl) ?_)
  · exact ⟨rfl, rfl, rfl, rfl, trivial⟩
  refine mS_clr hM h0
end C9yb
