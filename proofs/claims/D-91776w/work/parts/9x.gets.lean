/-! matchings: a sender gets a goal (WiredNets) -/
section C9x
abbrev gtP (g : Nat → Nat → Bool) (n s : Nat) (tr : Int32) (S : Nat → Prop) (O O' : Nat → Option Nat) : Prop := (∀ t, bt tr t = true → O' t = O t) ∧ (∃ t', bt tr t' = false ∧ O' t' = some s ∧ ∀ t, bt tr t = false → O' t = some s → t = t') ∧ (∀ x, x ≠ s → S x → ∃ u, O' u = some x) ∧ (∀ x u v, x ≠ s → O' u = some x → O' v = some x → u = v) ∧ (∀ t z, O' t = some z → t < n ∧ g z t = true ∧ (S z ∨ z = s))
abbrev gtF (g : Nat → Nat → Bool) (s : Nat) (tr tr' : Int32) (O : Nat → Option Nat) : Prop := (∀ t, bt tr t = true → bt tr' t = true) ∧ (∀ t, t < 24 → g s t = true → bt tr' t = true) ∧ ∀ t, bt tr' t = true → bt tr t = false → ∃ z, O t = some z ∧ ∀ u, u < 24 → g z u = true → bt tr' u = true
def put (O : Nat → Option Nat) (t s : Nat) : Nat → Option Nat := fun u => if u = t then some s else O u
theorem put_at {O : Nat → Option Nat} {t s : Nat} : put O t s t = some s := if_pos rfl
theorem put_ne {O : Nat → Option Nat} {t s u : Nat} (h : u ≠ t) : put O t s u = O u := if_neg h
theorem put_c {O : Nat → Option Nat} {t s u z : Nat} (h : put O t s u = some z) : (u = t ∧ z = s) ∨ (u ≠ t ∧ O u = some z) := by
  by_cases e : u = t
  · subst e; rw [put_at] at h; cases h; exact Or.inl ⟨rfl, rfl⟩
  · rw [put_ne e] at h; exact Or.inr ⟨e, h⟩
theorem ff_of {b : Bool} (h : ¬ b = true) : b = false := by cases b with
  | true => exact absurd rfl h
  | false => rfl
theorem gt_here {g : Nat → Nat → Bool} {n s t : Nat} {tr tr1 : Int32} {S : Nat → Prop} {O : Nat → Option Nat} (h : mS g S O) (hgn : ∀ z t, g z t = true → t < n) (hsub : ∀ u, bt tr u = true → bt tr1 u = true) (hown : ∀ t, O t = some s → bt tr t = true) (hg : g s t = true) (hT : bt tr1 t = false) (hO : O t = none) : gtP g n s tr S O (put O t s) := by
  have hT0 : bt tr t = false := ff_of fun z => by rw [hsub t z] at hT; cases hT
  refine ⟨fun u hu => put_ne fun e => (by rw [e, hT0] at hu; cases hu), ⟨t, hT0, put_at, fun u hu hz => ?_⟩, fun x hx hS => ?_, fun x u v hx hu hv => ?_, fun u z hz => ?_⟩
  · rcases put_c hz with ⟨e, -⟩ | ⟨-, e⟩
    · exact e
    · rw [hown u e] at hu; cases hu
  · obtain ⟨-, u, hu⟩ := h.2.2 x hS
    exact ⟨u, by rw [put_ne fun e => by rw [e, hO] at hu; cases hu]; exact hu⟩
  · rcases put_c hu with ⟨-, e⟩ | ⟨-, e⟩
    · exact absurd e hx
    · rcases put_c hv with ⟨-, e2⟩ | ⟨-, e2⟩
      · exact absurd e2 hx
      · exact h.2.1 u v x e e2
  · rcases put_c hz with ⟨e, e2⟩ | ⟨-, e⟩
    · rw [e, e2]; exact ⟨hgn s t hg, hg, Or.inr rfl⟩
    · exact ⟨hgn z u (h.1 u z e).2.1, (h.1 u z e).2.1, Or.inl (h.1 u z e).2.2⟩
theorem gt_deep {g : Nat → Nat → Bool} {n s t z : Nat} {tr tr1 tr2 : Int32} {S : Nat → Prop} {O O1 : Nat → Option Nat} (h : mS g S O) (hgn : ∀ z t, g z t = true → t < n) (hsub : ∀ u, bt tr u = true → bt tr1 u = true) (hown : ∀ t, O t = some s → bt tr t = true) (hg : g s t = true) (hT : bt tr1 t = false) (hO : O t = some z) (h2 : ∀ u, bt tr2 u = true ↔ (bt tr1 u = true ∨ u = t)) (hP : gtP g n z tr2 S O O1) : gtP g n s tr S O (put O1 t s) := by
  have hT0 : bt tr t = false := ff_of fun z => by rw [hsub t z] at hT; cases hT
  obtain ⟨p1, ⟨t1, q1, q2, q3⟩, p3, p4, p5⟩ := hP
  have hSz := (h.1 t z hO).2.2
  have hzs : z ≠ s := fun e => by rw [e] at hO; rw [hown t hO] at hT0; cases hT0
  have ht2 : O1 t = some z := by rw [p1 t ((h2 t).mpr (Or.inr rfl))]; exact hO
  have ht1 : t1 ≠ t := fun e => by rw [e, (h2 t).mpr (Or.inr rfl)] at q1; cases q1
  refine ⟨fun u hu => ?_, ⟨t, hT0, put_at, fun u hu hz => ?_⟩, fun x hx hS => ?_, fun x u v hx hu hv => ?_, fun u y hz => ?_⟩
  · rw [put_ne fun e => by rw [e, hT0] at hu; cases hu]
    exact p1 u ((h2 u).mpr (Or.inl (hsub u hu)))
  · rcases put_c hz with ⟨e, -⟩ | ⟨-, e⟩
    · exact e
    · rcases (p5 u s e).2.2 with hSs | e3
      · obtain ⟨-, u0, hu0⟩ := h.2.2 s hSs
        have h9 := hown u0 hu0
        have h8 : O1 u0 = some s := by rw [p1 u0 ((h2 u0).mpr (Or.inl (hsub u0 h9)))]; exact hu0
        have := p4 s u u0 (fun e => hzs e.symm) e h8
        rw [this, h9] at hu; cases hu
      · exact absurd e3.symm hzs
  · by_cases e : x = z
    · exact ⟨t1, by rw [put_ne ht1, e]; exact q2⟩
    · obtain ⟨u, hu⟩ := p3 x e hS
      exact ⟨u, by rw [put_ne fun e2 => by rw [e2, ht2] at hu; cases hu; exact e rfl]; exact hu⟩
  · rcases put_c hu with ⟨-, e⟩ | ⟨n1, e⟩
    · exact absurd e hx
    · rcases put_c hv with ⟨-, e2⟩ | ⟨n2, e2⟩
      · exact absurd e2 hx
      · by_cases e3 : x = z
        · subst e3
          have out : ∀ u, u ≠ t → O1 u = some x → bt tr2 u = false := fun u hne hu => ff_of fun hb => by
            rw [p1 u hb] at hu
            exact hne (h.2.1 u t x hu hO)
          exact (q3 u (out u n1 e) e).trans (q3 v (out v n2 e2) e2).symm
        · exact p4 x u v e3 e e2
  · rcases put_c hz with ⟨e, e2⟩ | ⟨-, e⟩
    · rw [e, e2]; exact ⟨hgn s t hg, hg, Or.inr rfl⟩
    · obtain ⟨a, b, c⟩ := p5 u y e
      exact ⟨a, b, c.elim Or.inl (fun e => Or.inl (by rw [e]; exact hSz))⟩
theorem gt_top {g : Nat → Nat → Bool} {n s : Nat} {S : Nat → Prop} {O O' : Nat → Option Nat} (hn : n ≤ 24) (hs : s < n) (hS : ∀ z, S z → z < n) (hP : gtP g n s (nI 0) S O O') : mS g (fun x => S x ∨ x = s) O' := by
  obtain ⟨p1, ⟨t1, q1, q2, q3⟩, p3, p4, p5⟩ := hP
  refine ⟨fun t z e => ?_, fun t u z e1 e2 => ?_, fun z hz => ?_⟩
  · obtain ⟨a, b, c⟩ := p5 t z e
    exact ⟨by omega, b, c⟩
  · by_cases e : z = s
    · subst e
      exact (q3 t (b_0 t) e1).trans (q3 u (b_0 u) e2).symm
    · exact p4 z t u e e1 e2
  · by_cases e : z = s
    · exact ⟨by omega, t1, by rw [e]; exact q2⟩
    · have h9 : S z := hz.elim id (fun q => absurd q e)
      exact ⟨by have := hS z h9; omega, p3 z e h9⟩
theorem ct_less {tr tr2 : Int32} {t : Nat} (ht : t < 24) (hT : bt tr t = false) (h2 : ∀ u, bt tr2 u = true ↔ (bt tr u = true ∨ u = t)) : fb_ct (fun u => !bt tr2 u) 24 < fb_ct (fun u => !bt tr u) 24 := by
  have h := fb_ct_upd (fun u => !bt tr u) false (i := t) (n := 24) ht
  have e : fb_ct (fun k => if k = t then false else !bt tr k) 24 = fb_ct (fun u => !bt tr2 u) 24 := fb_ct_cong fun k _ => by
    by_cases q : k = t
    · rw [if_pos q, (h2 k).mpr (Or.inr q)]; rfl
    · rw [if_neg q]
      have : bt tr2 k = bt tr k := by
        cases hb : bt tr k with
        | true => exact (h2 k).mpr (Or.inl hb)
        | false => exact ff_of fun z => ((h2 k).mp z).elim (fun y => by rw [hb] at y; cases y) q
      rw [this]
  rw [e, hT] at h
  simp at h
  omega
abbrev wGt (n : Nat) (d jo tr : Int32) (Sd Ow : Nat → Int32) : List zE := [zH, eWy 2 4 5 6 7 8 9 jo tr, eNet 3 (nI n) d, zH, zH, zH, zH, zH, zAi 0 24 Sd, zAi 0 24 Ow]
def gtC (n : Nat) (d jo : Int32) (g : Nat → Nat → Bool) (Sd : Nat → Int32) (m : Nat) : Prop := ∀ (s : Nat) (tr : Int32) (S : Nat → Prop) (O : Nat → Option Nat) (Ow : Nat → Int32), fb_ct (fun t => !bt tr t) 24 ≤ m → s < n → (∀ z, S z → z < n) → mS g S O → (∀ t, O t = some s → bt tr t = true) → (∀ t, t < n → Ow t = dI (O t)) →
    zCtr yX13_gets cX13_gets 3 (some .boolean) m 0 0 [zr 1 0, zi (nI s)] (wGt n d jo tr Sd Ow) (fun r w => (r = some (zi (bI false)) ∧ ∃ tr', w = wGt n d jo tr' Sd Ow ∧ gtF g s tr tr' O) ∨ (r = some (zi (bI true)) ∧ ∃ tr' O' Ow', w = wGt n d jo tr' Sd Ow' ∧ (∀ t, t < n → Ow' t = dI (O' t)) ∧ gtP g n s tr S O O')) zNx
theorem c_wgets1 (n : Nat) (d jo : Int32) (g : Nat → Nat → Bool) (Sd : Nat → Int32) (hn : n ≤ 24) (hS : ∀ z t, z < n → t < 24 → bt (Sd z) t = g z t) (hgn : ∀ z t, g z t = true → t < n) (m : Nat) (rec : ∀ m', m' < m → gtC n d jo g Sd m') : gtC n d jo g Sd m := by
  intro s tr S O Ow hm hs hSn hM hown hO
  refine z_start (by decide) [some (zr 1 0), some (zi (nI s)), none] rfl (fun _ => Nat.le_of_ble_eq_true rfl) (fun _ => rfl) (fun X F E hno hin => ?_)
  have lp : ∀ (u t : Nat) (tr1 : Int32), n - t < u → t ≤ n → (∀ u, bt tr u = true → bt tr1 u = true) → (∀ u, u < t → g s u = true → bt tr1 u = true) → (∀ u, bt tr1 u = true → bt tr u = false → ∃ z, O u = some z ∧ ∀ v, v < 24 → g z v = true → bt tr1 v = true) → Z X [some (zr 1 0), some (zi (nI s)), some (zi (nI t))] [] (wGt n d jo tr1 Sd Ow) 0 0 2 := by
    intro u
    induction u with
    | zero => intro t tr1 hu; omega
    | succ u ih2 =>
      intro t tr1 hu ht hsub hall_ hcl
      have t1 := fun z => hO t z
      have hS1 := fun z => hS s t hs z
      have fin : t < n → g s t = true → bt tr1 t = false → ∀ tr2, (∀ u, bt tr2 u = true ↔ (bt tr1 u = true ∨ u = t)) → Z X [some (zr 1 0), some (zi (nI s)), some (zi (nI t))] [] (wGt n d jo tr2 Sd Ow) 0 0 53 := by
        intro htn hg hT tr2 h2
        have t1 := t1 htn
        rcases ho : O t with _ | z
        ·
          rw [ho] at t1
          have hgt := gt_here hM hgn hsub hown hg hT ho
          refine z_aload_n F dX13_gets_53 rfl ?_
          refine z_get F zC13 (f := 7) rfl (Nat.le_of_ble_eq_true rfl) q1327 rfl dX13_gets_54 ?_
          refine z_iload_n F dX13_gets_57 rfl ?_
          refine z_ialdN F rfl (Nat.le_of_ble_eq_true rfl) (by omega) rfl dX13_gets_58 ?_
          refine z_ieq (t1) ?_
          refine z_iconst F (-1) dX13_gets_59 rfl ?_
          refine z_icmp_eq F (tgt := 76) dX13_gets_60 (by decide) (fun c_60 => ?_) (fun c_60 => ?_)
          · refine z_aload_n F dX13_gets_76 rfl ?_
            refine z_get F zC13 (f := 7) rfl (Nat.le_of_ble_eq_true rfl) q1327 rfl dX13_gets_77 ?_
            refine z_iload_n F dX13_gets_80 rfl ?_
            refine z_iload_n F dX13_gets_81 rfl ?_
            refine z_iastN F rfl (Nat.le_of_ble_eq_true rfl) (by omega) dX13_gets_82 ?_
            refine z_weq (w' := [_, _, _, _, _, _, _, _, _, _]) rfl ?_
            refine z_iconst F (nI 1) dX13_gets_83 rfl ?_
            exact z_zret F E rfl rfl dX13_gets_84 (by omega) (by omega) (Or.inr ⟨rfl, tr2, put O t s, _, rfl, fun u hu => by
  show (if u = t then nI s else Ow u) = dI (if u = t then some s else O u)
  by_cases e : u = t
  · rw [if_pos e, if_pos e]; rfl
  · rw [if_neg e, if_neg e]; exact hO u hu, hgt⟩)
          · exact absurd rfl c_60
        rw [ho] at t1
        have hz := (hM.1 t z ho)
        have hzn := hSn z hz.2.2
        have hle := ct_less (show t < 24 by omega) hT h2
        have hle2 : fb_ct (fun u => !bt tr1 u) 24 ≤ fb_ct (fun u => !bt tr u) 24 := fb_ct_sub fun k _ hk => by
          cases hb : bt tr k with
          | false => rfl
          | true => rw [hsub k hb] at hk; cases hk
        have hr := rec (fb_ct (fun u => !bt tr2 u) 24) (by omega) z tr2 S O Ow (Nat.le_refl _) hzn hSn hM (fun v hv => (h2 v).mpr (Or.inr (hM.2.1 v t z hv ho))) hO
        have at63 : Z X [some (zr 1 0), some (zi (nI s)), some (zi (nI t))] [] (wGt n d jo tr2 Sd Ow) 0 0 63 := by
          refine z_aload_n F dX13_gets_63 rfl ?_
          refine z_aload_n F dX13_gets_64 rfl ?_
          refine z_get F zC13 (f := 7) rfl (Nat.le_of_ble_eq_true rfl) q1327 rfl dX13_gets_65 ?_
          refine z_iload_n F dX13_gets_68 rfl ?_
          refine z_ialdN F rfl (Nat.le_of_ble_eq_true rfl) (by omega) rfl dX13_gets_69 ?_
          refine z_ieq (t1) ?_
          refine z_callV F (hr) 1 rfl (lw_V q1387 q1389 qs36 q141 q1390) (by decide +kernel) ⟨by omega, Nat.le_of_ble_eq_true rfl⟩ ⟨by omega, by omega⟩ [0, 1, 2, 3, 4, 5, 6, 7, 8, 9] 10 ⟨rfl, rfl, rfl, ⟨Or.inl rfl, Or.inr rfl, Or.inr rfl, Or.inl rfl, Or.inl rfl, Or.inl rfl, Or.inl rfl, Or.inl rfl, Or.inr rfl, Or.inr rfl, trivial⟩⟩ (fun h => nomatch h) (Nat.le_of_ble_eq_true rfl) ⟨⟨Or.inr trivial, Or.inl rfl, Or.inl rfl, Or.inr trivial, Or.inr trivial, Or.inr trivial, Or.inr trivial, Or.inr trivial, Or.inl rfl, Or.inl rfl, trivial⟩, rfl, rfl, rfl, Nat.le_of_ble_eq_true rfl⟩ rfl zC13 rfl rfl dX13_gets_70 (fun r_70 w_70 hp => ?_) (fun _ _ h => h.elim)
          rcases hp with ⟨rfl, tr3, rfl, k1, k2, k3⟩ | ⟨rfl, tr3, O1, Ow1, rfl, k1, k2⟩
          ·
            refine z_weq (w' := wGt n d jo tr3 Sd Ow) rfl ?_
            refine z_seq (S' := [zi _]) rfl ?_
            refine z_if_eqB F (tgt := 85) dX13_gets_73 (by decide) (fun c_73 => ?_) (fun c_73 => ?_)
            · refine z_iincN F 1 dX13_gets_85 rfl rfl ?_
              refine z_leq (L' := [_, _, _]) rfl ?_
              refine z_goto F (tgt := 2) dX13_gets_88 (by decide) ?_
              exact ih2 (t + 1) tr3 (by omega) (by omega) (fun v hv => k1 v ((h2 v).mpr (Or.inl (hsub v hv)))) (fun v hv hgv => by
                by_cases e : v = t
                · exact k1 v ((h2 v).mpr (Or.inr e))
                · exact k1 v ((h2 v).mpr (Or.inl (hall_ v (by omega) hgv)))) (fun v h1 h3 => by
                cases hb : bt tr2 v with
                | false => exact k3 v h1 hb
                | true =>
                  rcases (h2 v).mp hb with q | q
                  · obtain ⟨y, y1, y2⟩ := hcl v q h3
                    exact ⟨y, y1, fun u hu hgu => k1 u ((h2 u).mpr (Or.inl (y2 u hu hgu)))⟩
                  · rw [q]
                    exact ⟨z, ho, k2⟩)
            · cases c_73
          refine z_weq (w' := wGt n d jo tr3 Sd Ow1) rfl ?_
          refine z_seq (S' := [zi _]) rfl ?_
          have hgt := gt_deep hM hgn hsub hown hg hT ho h2 k2
          refine z_if_eqB F (tgt := 85) dX13_gets_73 (by decide) (fun c_73 => ?_) (fun c_73 => ?_)
          · cases c_73
          · refine z_aload_n F dX13_gets_76 rfl ?_
            refine z_get F zC13 (f := 7) rfl (Nat.le_of_ble_eq_true rfl) q1327 rfl dX13_gets_77 ?_
            refine z_iload_n F dX13_gets_80 rfl ?_
            refine z_iload_n F dX13_gets_81 rfl ?_
            refine z_iastN F rfl (Nat.le_of_ble_eq_true rfl) (by omega) dX13_gets_82 ?_
            refine z_weq (w' := [_, _, _, _, _, _, _, _, _, _]) rfl ?_
            refine z_iconst F (nI 1) dX13_gets_83 rfl ?_
            exact z_zret F E rfl rfl dX13_gets_84 (by omega) (by omega) (Or.inr ⟨rfl, tr3, put O1 t s, _, rfl, fun u hu => by
  show (if u = t then nI s else Ow1 u) = dI (if u = t then some s else O1 u)
  by_cases e : u = t
  · rw [if_pos e, if_pos e]; rfl
  · rw [if_neg e, if_neg e]; exact k1 u hu, hgt⟩)
        refine z_aload_n F dX13_gets_53 rfl ?_
        refine z_get F zC13 (f := 7) rfl (Nat.le_of_ble_eq_true rfl) q1327 rfl dX13_gets_54 ?_
        refine z_iload_n F dX13_gets_57 rfl ?_
        refine z_ialdN F rfl (Nat.le_of_ble_eq_true rfl) (by omega) rfl dX13_gets_58 ?_
        refine z_ieq (t1) ?_
        refine z_iconst F (-1) dX13_gets_59 rfl ?_
        refine z_icmp_eq F (tgt := 76) dX13_gets_60 (by decide) (fun c_60 => ?_) (fun c_60 => ?_)
        · exact absurd c_60 (nI_ne (by omega))
        · exact at63
      have nx : t < n → ∀ (q : g s t = true → bt tr1 t = true), Z X [some (zr 1 0), some (zi (nI s)), some (zi (nI (t + 1)))] [] (wGt n d jo tr1 Sd Ow) 0 0 2 := fun htn q => ih2 (t + 1) tr1 (by omega) (by omega) hsub (fun v hv hgv => by
        by_cases e : v = t
        · rw [e]; exact q (by rw [← e]; exact hgv)
        · exact hall_ v (by omega) hgv) hcl
      have hb2 : t < n → ∀ u, bt (tr1 ||| b1 t) u = true ↔ (bt tr1 u = true ∨ u = t) := fun htn u => by
        rw [bt_or1 tr1 (by omega) u, Bool.or_eq_true, decide_eq_true_eq]
      refine z_iload_n F dX13_gets_2 rfl ?_
      refine z_aload_n F dX13_gets_3 rfl ?_
      refine z_get F zC13 (f := 0) rfl (Nat.le_of_ble_eq_true rfl) q1317 rfl dX13_gets_4 ?_
      refine z_getN F zC5 (f := 0) rfl (Nat.le_of_ble_eq_true rfl) q239 rfl dX13_gets_7 ?_
      refine z_icmp_geN F (by omega) (by omega) (tgt := 91) dX13_gets_10 (by decide) (fun c_10 => ?_) (fun c_10 => ?_)
      · refine z_iconst F (nI 0) dX13_gets_91 rfl ?_
        exact z_zret F E rfl rfl dX13_gets_92 (by omega) (by omega) (Or.inl ⟨rfl, tr1, rfl, hsub, fun v hv hg => hall_ v (by have := hgn s v hg; omega) hg, hcl⟩)
      · have t1 := t1 (by omega)
        have hS1 := hS1 (by omega)
        refine z_aload_n F dX13_gets_13 rfl ?_
        refine z_get F zC13 (f := 6) rfl (Nat.le_of_ble_eq_true rfl) q1326 rfl dX13_gets_14 ?_
        refine z_iload_n F dX13_gets_17 rfl ?_
        refine z_ialdN F rfl (Nat.le_of_ble_eq_true rfl) (by omega) rfl dX13_gets_18 ?_
        refine z_iload_n F dX13_gets_19 rfl ?_
        refine z_ishr F dX13_gets_20 ?_
        refine z_iconst F (nI 1) dX13_gets_21 rfl ?_
        refine z_iandB F (by omega) dX13_gets_22 ?_
        refine z_if_eqB F (tgt := 85) dX13_gets_23 (by decide) (fun c_23 => ?_) (fun c_23 => ?_)
        · refine z_iincN F 1 dX13_gets_85 rfl rfl ?_
          refine z_leq (L' := [_, _, _]) rfl ?_
          refine z_goto F (tgt := 2) dX13_gets_88 (by decide) ?_
          exact nx (by omega) (fun q => by rw [hS1, q] at c_23; cases c_23)
        · refine z_aload_n F dX13_gets_26 rfl ?_
          refine z_get F zC13 (f := 8) rfl (Nat.le_of_ble_eq_true rfl) q1328 rfl dX13_gets_27 ?_
          refine z_iload_n F dX13_gets_30 rfl ?_
          refine z_ishr F dX13_gets_31 ?_
          refine z_iconst F (nI 1) dX13_gets_32 rfl ?_
          refine z_iandB F (by omega) dX13_gets_33 ?_
          refine z_iconst F (nI 1) dX13_gets_34 rfl ?_
          refine z_icmp_neB F (tgt := 41) dX13_gets_35 (by decide) (fun c_35 => ?_) (fun c_35 => ?_)
          · refine z_aload_n F dX13_gets_41 rfl ?_
            refine z_dup F dX13_gets_42 rfl ?_
            refine z_get F zC13 (f := 8) rfl (Nat.le_of_ble_eq_true rfl) q1328 rfl dX13_gets_43 ?_
            refine z_iconst F (nI 1) dX13_gets_46 rfl ?_
            refine z_iload_n F dX13_gets_47 rfl ?_
            refine z_ishlB F dX13_gets_48 ?_
            refine z_ior F dX13_gets_49 ?_
            refine z_put F zC13 (f := 8) rfl (Nat.le_of_ble_eq_true rfl) q1328 rfl (fun _ => rfl) (fun _ => rfl) (Nat.le_of_ble_eq_true rfl) dX13_gets_50 ?_
            refine z_weq (w' := [_, zO _ [_, _, _, _, _, _, _, _, _], _, _, _, _, _, _, _, _]) rfl ?_
            exact fin (by omega) (by rw [← hS1]; exact c_23) c_35 _ (hb2 (by omega))
          · refine z_goto F (tgt := 85) dX13_gets_38 (by decide) ?_
            refine z_iincN F 1 dX13_gets_85 rfl rfl ?_
            refine z_leq (L' := [_, _, _]) rfl ?_
            refine z_goto F (tgt := 2) dX13_gets_88 (by decide) ?_
            exact nx (by omega) (fun q => c_35)
  refine z_iconst F (nI 0) dX13_gets_0 rfl ?_
  refine z_istore_n F dX13_gets_1 (Nat.le_of_ble_eq_true rfl) ?_
  refine z_leq (L' := [_, _, _]) rfl ?_
  exact lp (n + 1) 0 tr (by omega) (by omega) (fun _ h => h) (fun u hu => absurd hu (by omega)) (fun u h1 h2 => by rw [h1] at h2; cases h2)
theorem c_wgets (n : Nat) (d jo : Int32) (g : Nat → Nat → Bool) (Sd : Nat → Int32) (hn : n ≤ 24) (hS : ∀ z t, z < n → t < 24 → bt (Sd z) t = g z t) (hgn : ∀ z t, g z t = true → t < n) (m : Nat) : gtC n d jo g Sd m := by
  induction m using Nat.strongRecOn with
  | ind m ih => exact c_wgets1 n d jo g Sd hn hS hgn m ih
end C9x
