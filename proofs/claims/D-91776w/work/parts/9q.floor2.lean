/-! floors: all rows -/
section C9q
abbrev fBs : Type := Option (Nat × (Nat → Nat))
def isMl (n : Nat) (L : (Nat → Nat) → Nat) (S : (Nat → Nat) → Prop) (B : fBs) : Prop := (∀ r, isP n r → S r → ∃ l q, B = some (l, q) ∧ (l < L r ∨ (l = L r ∧ (eqN n q r ∨ lxL n q r)))) ∧ ∀ l q, B = some (l, q) → S q ∧ isP n q ∧ L q = l
theorem isMl_cg {n : Nat} {L : (Nat → Nat) → Nat} {S T : (Nat → Nat) → Prop} {B : fBs} (h : isMl n L S B) (e : ∀ r, isP n r → (S r ↔ T r)) : isMl n L T B := ⟨fun r hr ht => h.1 r hr ((e r hr).mpr ht), fun l q hb => ⟨(e q (h.2 l q hb).2.1).mp (h.2 l q hb).1, (h.2 l q hb).2⟩⟩
/-- a row behind all others that isn't shorter -/
theorem isMl_keep {n l : Nat} {q : Nat → Nat} {L : (Nat → Nat) → Nat} {S T : (Nat → Nat) → Prop} (h : isMl n L S (some (l, q))) (hT : ∀ r, isP n r → T r → l ≤ L r ∧ lxL n q r) : isMl n L (fun r => S r ∨ T r) (some (l, q)) := by
  refine ⟨fun r hr hs => ?_, fun l' q' hb => ⟨Or.inl (h.2 l' q' hb).1, (h.2 l' q' hb).2⟩⟩
  rcases hs with hs | ht
  · exact h.1 r hr hs
  · obtain ⟨h1, h2⟩ := hT r hr ht
    refine ⟨l, q, rfl, ?_⟩
    by_cases e : l = L r
    · exact Or.inr ⟨e, Or.inr h2⟩
    · exact Or.inl (by omega)
theorem isMl_new {n : Nat} {p : Nat → Nat} {L : (Nat → Nat) → Nat} {S T : (Nat → Nat) → Prop} {B : fBs} (h : isMl n L S B) (hp : isP n p) (hTp : T p) (hL : ∀ r s, isP n r → eqN n s r → L s = L r) (hT : ∀ r, isP n r → T r → eqN n p r) (hb : ∀ l q, B = some (l, q) → L p < l) : isMl n L (fun r => S r ∨ T r) (some (L p, p)) := by
  refine ⟨fun r hr hs => ⟨L p, p, rfl, ?_⟩, fun l q e => by cases e; exact ⟨Or.inr hTp, hp, rfl⟩⟩
  rcases hs with hs | ht
  · obtain ⟨l, q, e, h2⟩ := h.1 r hr hs
    have := hb l q e
    exact Or.inl (by omega)
  · have := hT r hr ht
    exact Or.inr ⟨hL r p hr this, Or.inl this⟩
theorem isMl_one {n l l' : Nat} {q q' : Nat → Nat} {L : (Nat → Nat) → Nat} {S : (Nat → Nat) → Prop} (hS : ∀ r, isP n r → S r) (h : isMl n L S (some (l, q))) (h' : isMl n L S (some (l', q'))) : l = l' ∧ eqN n q q' := by
  obtain ⟨a1, a2, a3⟩ := h.2 l q rfl
  obtain ⟨b1, b2, b3⟩ := h'.2 l' q' rfl
  obtain ⟨x, y, e, h1⟩ := h.1 q' b2 (hS q' b2)
  obtain ⟨x', y', e', h2⟩ := h'.1 q a2 (hS q a2)
  cases e; cases e'
  rw [b3] at h1; rw [a3] at h2
  rcases h1 with h1 | ⟨h1, h1'⟩
  · rcases h2 with h2 | ⟨h2, _⟩ <;> omega
  · refine ⟨h1, ?_⟩
    rcases h1' with z | z
    · exact z
    · rcases h2 with h2 | ⟨_, y | y⟩
      · omega
      · exact fun k hk => (y k hk).symm
      · exact absurd (lxL_tr z y) lxL_irr
theorem moR_cg {n w b : Nat} {f : Nat → Int32} {p q : Nat → Nat} (e : ∀ k, k ≤ b → p k = q k) : moR n f w p b = moR n f w q b := fb_sm_cong fun a _ => by
  by_cases h : a < b ∧ bt (f b) a = true
  · rw [if_pos h, if_pos h, e b (Nat.le_refl _), e a (by omega)]
  · rw [if_neg h, if_neg h]
theorem lnK_cg {n w k : Nat} {f : Nat → Int32} {p q : Nat → Nat} (e : ∀ i, i < k → p i = q i) : fb_sm (moR n f w p) k = fb_sm (moR n f w q) k := fb_sm_cong fun b hb => moR_cg fun i hi => e i (by omega)
theorem LN_cg {n w : Nat} {f : Nat → Int32} {p q : Nat → Nat} (h : nsy n f) (e : eqN n p q) : LN n f w p = LN n f w q := by
  rw [LN_rows h, LN_rows h]; exact lnK_cg e
theorem LN_part {n w k : Nat} {f : Nat → Int32} {p : Nat → Nat} (h : nsy n f) (hk : k ≤ n) : fb_sm (moR n f w p) k ≤ LN n f w p := by
  rw [LN_rows h]
  have := fb_sm_mono (moR n f w p) k (n - k)
  rw [show k + (n - k) = n by omega] at this
  exact this
def flB (B : fBs) (n : Nat) (ls : Int32) (Bs : Nat → Int32) : Prop := match B with
  | none => ls = -1
  | some (l, q) => ls = nI l ∧ l < 100000 ∧ ∀ i, i < n → Bs i = nI (q i)
abbrev wGF (n w : Nat) (d ls : Int32) (f Pl Bs : Nat → Int32) : List zE := [zH, eFo (nI w) ls, eNet 3 (nI n) d, zAi 0 24 f, zH, zAi 0 n Pl, zAi 0 n Bs]
def extP (k : Nat) (p r : Nat → Nat) : Prop := ∀ i, i < k → r i = p i
theorem moR_le {n w b : Nat} {f : Nat → Int32} {p : Nat → Nat} (hw : 1 ≤ w) (hn : n ≤ 24) (hb : p b < 24) (hp : ∀ i, i < b → p i < 24) (x : Nat) : fb_sm (fun a => if a < b ∧ bt (f b) a = true then apN w (p b) (p a) else 0) x ≤ x * 50 := fb_sm_bound fun a _ => by
  split
  · rename_i h
    have := apN_lt hw hb (hp a h.1)
    omega
  · omega
theorem c_flGo (n w dd : Nat) (d : Int32) (f : Nat → Int32) (h : nok n dd f) (hw : 1 ≤ w) (hw2 : w ≤ 24) : ∀ (m k : Nat) (us : Int32) (p : Nat → Nat) (S : (Nat → Nat) → Prop) (B : fBs) (ls : Int32) (Pl Bs : Nat → Int32), k + m = n → (∀ i, i < k → p i < n) → (∀ i j, i < k → j < k → p i = p j → i = j) → (∀ v, bt us v = true ↔ ∃ i, i < k ∧ p i = v) → (∀ i, i < k → Pl i = nI (p i)) → isMl n (LN n f w) S B → (∀ r s, isP n r → S r → isP n s → extP k p s → lxL n r s) → flB B n ls Bs →
    zCtr yX12_go cX12_go 7 none (m + 3) 0 0 [zr 1 0, zi (nI k), zi us, zi (nI (fb_sm (moR n f w p) k))] (wGF n w d ls f Pl Bs) (fun r w' => r = none ∧ ∃ ls' Pl' Bs' B', w' = wGF n w d ls' f Pl' Bs' ∧ (∀ i, i < k → Pl' i = Pl i) ∧ flB B' n ls' Bs' ∧ isMl n (LN n f w) (fun r => S r ∨ extP k p r) B') zNx := by
  have hn := h.n24
  have hn1 := h.n1
  intro m
  induction m with
  | zero =>
    intro k us p S B ls Pl Bs hkm hp hinj hus hPl hM hlt hB
    obtain rfl : k = n := by omega
    have hpP : isP k p := ⟨hp, hinj⟩
    have hlen : LN k f w p = fb_sm (moR k f w p) k := LN_rows h.sy w p
    have hle : fb_sm (moR k f w p) k ≤ k * 1200 := fb_sm_bound fun b hb => by
      have := moR_le (n := k) (f := f) hw hn (show p b < 24 by have := hp b hb; omega) (fun i hi => by have := hp i (by omega); omega) k
      show moR k f w p b ≤ 1200
      unfold moR; omega
    refine z_start (by decide) [some (zr 1 0), some (zi (nI k)), some (zi us), some (zi (nI (fb_sm (moR k f w p) k))), none, none, none] rfl (fun _ => Nat.le_of_ble_eq_true rfl) (fun _ => rfl) (fun X F E hno hin => ?_)
    have copy : (∀ l q, B = some (l, q) → fb_sm (moR k f w p) k < l) → ∀ (u i : Nat) (Bs1 : Nat → Int32), k - i < u → i ≤ k → (∀ x, x < i → Bs1 x = nI (p x)) → Z X [some (zr 1 0), some (zi (nI k)), some (zi us), some (zi (nI (fb_sm (moR k f w p) k))), some (zi (nI i)), none, none] [] (wGF k w d (nI (fb_sm (moR k f w p) k)) f Pl Bs1) 0 0 36 := by
      intro hlt2 u
      induction u with
      | zero => intro i Bs1 hm; omega
      | succ u ih =>
        intro i Bs1 hm hi hb
        have t1 := fun z => hPl i z
        refine z_iload F dX12_go_36 rfl ?_
        refine z_iload_n F dX12_go_38 rfl ?_
        refine z_icmp_geN F (by omega) (by omega) (tgt := 62) dX12_go_39 (by decide) (fun c_39 => ?_) (fun c_39 => ?_)
        · exact z_vret F E rfl dX12_go_62 (by omega) (by omega) (⟨rfl, _, Pl, Bs1, some (LN k f w p, p), rfl, fun _ _ => rfl, ⟨by rw [hlen], by rw [hlen]; omega, fun x hx => hb x (by omega)⟩, isMl_new hM hpP (fun _ _ => rfl) (fun r s _ e => LN_cg h.sy e) (fun r _ hr x hx => (hr x hx).symm) (fun l q e => by rw [hlen]; exact hlt2 l q e)⟩)
        · have t1 := t1 (by omega)
          refine z_aload_n F dX12_go_42 rfl ?_
          refine z_get F zC12 (f := 4) rfl (Nat.le_of_ble_eq_true rfl) q1238 rfl dX12_go_43 ?_
          refine z_iload F dX12_go_46 rfl ?_
          refine z_aload_n F dX12_go_48 rfl ?_
          refine z_get F zC12 (f := 3) rfl (Nat.le_of_ble_eq_true rfl) q1237 rfl dX12_go_49 ?_
          refine z_iload F dX12_go_52 rfl ?_
          refine z_ialdN F rfl (by omega) (by omega) rfl dX12_go_54 ?_
          refine z_ieq (t1) ?_
          refine z_iastN F rfl (by omega) (by omega) dX12_go_55 ?_
          refine z_weq (w' := [_, _, _, _, _, _, _]) rfl ?_
          refine z_iincN F 1 dX12_go_56 rfl rfl ?_
          refine z_leq (L' := [_, _, _, _, _, _, _]) rfl ?_
          refine z_goto F (tgt := 36) dX12_go_59 (by decide) ?_
          exact ih (i + 1) _ (by omega) (by omega) (fun x hx => by
            show (if x = i then _ else Bs1 x) = _
            by_cases e : x = i
            · rw [if_pos e, e]
            · rw [if_neg e]; exact hb x (by omega))
    have at17 : (∀ l q, B = some (l, q) → fb_sm (moR k f w p) k < l) → Z X [some (zr 1 0), some (zi (nI k)), some (zi us), some (zi (nI (fb_sm (moR k f w p) k))), none, none, none] [] (wGF k w d ls f Pl Bs) 0 0 17 := by
      intro hlt2
      refine z_iload_n F dX12_go_17 rfl ?_
      refine z_aload_n F dX12_go_18 rfl ?_
      refine z_get F zC12 (f := 0) rfl (Nat.le_of_ble_eq_true rfl) q1234 rfl dX12_go_19 ?_
      refine z_getN F zC5 (f := 0) rfl (Nat.le_of_ble_eq_true rfl) q238 rfl dX12_go_22 ?_
      refine z_icmp_neN F (by omega) (by omega) (tgt := 63) dX12_go_25 (by decide) (fun c_25 => ?_) (fun c_25 => ?_)
      · exact absurd c_25 (by omega)
      · refine z_aload_n F dX12_go_28 rfl ?_
        refine z_iload_n F dX12_go_29 rfl ?_
        refine z_put F zC12 (f := 5) rfl (Nat.le_of_ble_eq_true rfl) q1240 rfl (fun _ => rfl) (fun _ => rfl) (Nat.le_of_ble_eq_true rfl) dX12_go_30 ?_
        refine z_weq (w' := [_, zO _ [_, _, _, _, _, _], _, _, _, _, _]) rfl ?_
        refine z_iconst F (nI 0) dX12_go_33 rfl ?_
        refine z_istore F dX12_go_34 (Nat.le_of_ble_eq_true rfl) ?_
        refine z_leq (L' := [_, _, _, _, _, _, _]) rfl ?_
        exact copy hlt2 (k + 1) 0 Bs (by omega) (by omega) (fun x hx => absurd hx (by omega))
    rcases B with _ | ⟨l, q⟩
    ·
      have hB0 : ls = -1 := hB
      subst hB0
      refine z_aload_n F dX12_go_0 rfl ?_
      refine z_get F zC12 (f := 5) rfl (Nat.le_of_ble_eq_true rfl) q1240 rfl dX12_go_1 ?_
      refine z_iconst F (-1) dX12_go_4 rfl ?_
      refine z_icmp_eq F (tgt := 17) dX12_go_5 (by decide) (fun c_5 => ?_) (fun c_5 => ?_)
      · exact at17 (fun l q e => by cases e)
      · exact absurd rfl c_5
    obtain ⟨rfl, hl, hbq⟩ := id hB
    refine z_aload_n F dX12_go_0 rfl ?_
    refine z_get F zC12 (f := 5) rfl (Nat.le_of_ble_eq_true rfl) q1240 rfl dX12_go_1 ?_
    refine z_iconst F (-1) dX12_go_4 rfl ?_
    refine z_icmp_eq F (tgt := 17) dX12_go_5 (by decide) (fun c_5 => ?_) (fun c_5 => ?_)
    · exact absurd c_5 (nI_ne (by omega))
    · refine z_iload_n F dX12_go_8 rfl ?_
      refine z_aload_n F dX12_go_9 rfl ?_
      refine z_get F zC12 (f := 5) rfl (Nat.le_of_ble_eq_true rfl) q1240 rfl dX12_go_10 ?_
      refine z_icmp_ltN F (by omega) (by omega) (tgt := 17) dX12_go_13 (by decide) (fun c_13 => ?_) (fun c_13 => ?_)
      · exact at17 (fun l' q' e => by cases e; omega)
      · exact z_vret F E rfl dX12_go_16 (by omega) (by omega) (⟨rfl, _, Pl, Bs, some (l, q), rfl, fun _ _ => rfl, hB, isMl_keep hM (fun r hr ht => ⟨Nat.le_trans (by rw [lnK_cg (fun i hi => ht i hi)]; omega) (LN_part h.sy (Nat.le_refl k)), hlt q r (hM.2 l q rfl).2.1 (hM.2 l q rfl).1 hr ht⟩)⟩)

  | succ m ih =>
    intro k us p S B ls Pl Bs hkm hp hinj hus hPl hM hlt hB
    have hkn : k < n := by omega
    refine z_start (by decide) [some (zr 1 0), some (zi (nI k)), some (zi us), some (zi (nI (fb_sm (moR n f w p) k))), none, none, none] rfl (fun _ => Nat.le_of_ble_eq_true rfl) (fun _ => rfl) (fun X F E hno hin => ?_)
    have hle : fb_sm (moR n f w p) k ≤ k * 1200 := fb_sm_bound fun b hb => by
      have := moR_le (n := n) (f := f) hw hn (show p b < 24 by have := hp b (by omega); omega) (fun i hi => by have := hp i (by omega); omega) n
      show moR n f w p b ≤ 1200
      unfold moR; omega
    have bits : ∀ (v : Nat) (ls1 : Int32) (Pl1 Bs1 : Nat → Int32), v < n → (∀ i, i < k → Pl1 i = nI (p i)) → (Z X [some (zr 1 0), some (zi (nI k)), some (zi us), some (zi (nI (fb_sm (moR n f w p) k))), some (zi (nI v)), some (zi (nI (moR n f w (fun i => if i = k then v else p i) k))), none] [] (wGF n w d ls1 f Pl1 Bs1) 0 0 157) →
        ∀ (u : Nat) (y : Int32) (x : Nat), pc32 y < u → x ≤ n → upto (f k &&& allB k) x y → Z X [some (zr 1 0), some (zi (nI k)), some (zi us), some (zi (nI (fb_sm (moR n f w p) k))), some (zi (nI v)), some (zi (nI (fb_sm (fun a => if a < k ∧ bt (f k) a = true then apN w v (p a) else 0) x))), some (zi y)] [] (wGF n w d ls1 f Pl1 Bs1) 0 0 119 := by
      intro v ls1 Pl1 Bs1 hv hP1 kk u
      have eqm : moR n f w (fun i => if i = k then v else p i) k = fb_sm (fun a => if a < k ∧ bt (f k) a = true then apN w v (p a) else 0) n := fb_sm_cong fun a _ => by
        show (if a < k ∧ bt (f k) a = true then apN w (if k = k then v else p k) (if a = k then v else p a) else 0) = _
        by_cases e : a < k ∧ bt (f k) a = true
        · rw [if_pos e, if_pos e, if_pos rfl, if_neg (by omega)]
        · rw [if_neg e, if_neg e]
      have bk : ∀ a, bt (f k &&& allB k) a = true ↔ a < k ∧ bt (f k) a = true := fun a => by
        rw [b_and, bt_allB (by omega), Bool.and_eq_true, decide_eq_true_eq]
        exact ⟨fun z => ⟨z.2, z.1⟩, fun z => ⟨z.2, z.1⟩⟩
      have skip : ∀ x y, x ≤ y → (∀ a, x ≤ a → a < y → bt (f k &&& allB k) a = false) → fb_sm (fun a => if a < k ∧ bt (f k) a = true then apN w v (p a) else 0) y = fb_sm (fun a => if a < k ∧ bt (f k) a = true then apN w v (p a) else 0) x := by
        intro x y hxy
        induction y with
        | zero => intro _; rw [show x = 0 by omega]
        | succ y ihy =>
          intro hz
          by_cases e : x = y + 1
          · rw [e]
          · rw [fb_sm_succ, ihy (by omega) (fun a h1 h2 => hz a h1 (by omega)), if_neg (fun z => by have h9 := hz y (by omega) (by omega); rw [(bk y).mpr z] at h9; cases h9)]; rfl
      induction u with
      | zero => intro y x hm; omega
      | succ u ih2 =>
        intro y x hm hx hu
        have back : ∀ t, t < k → bt (f k) t = true → upto (f k &&& allB k) (t + 1) (y &&& (y - nI 1)) → pc32 (y &&& (y - nI 1)) < u → Z X [some (zr 1 0), some (zi (nI k)), some (zi us), some (zi (nI (fb_sm (moR n f w p) k))), some (zi (nI v)), some (zi (nI (fb_sm (fun a => if a < k ∧ bt (f k) a = true then apN w v (p a) else 0) t + apN w v (p t)))), some (zi y)] [] (wGF n w d ls1 f Pl1 Bs1) 0 0 145 := by
          intro t ht hb hu2 hpc
          have i2 := ih2 _ (t + 1) hpc (by omega) hu2
          rw [fb_sm_succ, if_pos ⟨ht, hb⟩] at i2
          refine z_iload F dX12_go_145 rfl ?_
          refine z_iload F dX12_go_147 rfl ?_
          refine z_iconst F (nI 1) dX12_go_149 rfl ?_
          refine z_isub F dX12_go_150 ?_
          refine z_iand F dX12_go_151 ?_
          refine z_istore F dX12_go_152 (Nat.le_of_ble_eq_true rfl) ?_
          refine z_leq (L' := [_, _, _, _, _, _, _]) rfl ?_
          refine z_goto F (tgt := 119) dX12_go_154 (by decide) ?_
          exact i2
        refine z_iload F dX12_go_119 rfl ?_
        refine z_if_eq F (tgt := 157) dX12_go_121 (by decide) (fun c_121 => ?_) (fun c_121 => ?_)
        · subst c_121
          have e1 := skip x n hx (fun a h1 h2 => upto_end hu a h1 (by omega))
          rw [← e1, ← eqm]
          refine z_loc _ ?_ kk
          exact ⟨rfl, rfl, rfl, rfl, rfl, rfl, trivial⟩
        · obtain ⟨t, ht, hxt, hS, hSk, hy1, hy0, hu2, hpc⟩ := upto_low hu c_121
          obtain ⟨t1, t2⟩ := (bk t).mp hS
          have g1 := hP1 t t1
          have g2 := hp t t1
          rw [← skip x t hxt hSk]
          refine z_iload F dX12_go_124 rfl ?_
          refine z_aload_n F dX12_go_126 rfl ?_
          refine z_iload F dX12_go_127 rfl ?_
          refine z_aload_n F dX12_go_129 rfl ?_
          refine z_get F zC12 (f := 3) rfl (Nat.le_of_ble_eq_true rfl) q1237 rfl dX12_go_130 ?_
          refine z_iload F dX12_go_133 rfl ?_
          refine z_callS F (c_ntz y t (by omega) hy1 hy0) 1 rfl (lw_S q1262 q808 q123 q809) (by decide +kernel) ⟨by omega, Nat.le_of_ble_eq_true rfl⟩ ⟨by omega, by omega⟩ [0] 7 ⟨rfl, rfl, rfl, ⟨Or.inl rfl, trivial⟩⟩ (fun h => nomatch h) (Nat.le_of_ble_eq_true rfl) ⟨⟨Or.inr trivial, Or.inr rfl, Or.inr rfl, Or.inr trivial, Or.inr trivial, Or.inr trivial, Or.inr trivial, trivial⟩, rfl, rfl, rfl, Nat.le_of_ble_eq_true rfl⟩ rfl rfl dX12_go_135 (fun r_135 w_135 hp => ?_) (fun _ _ h => h.elim)
          obtain ⟨rfl, rfl⟩ := hp
          refine z_weq (w' := [zH, zO _ [zr _ _, zi _, zr _ _, zr _ _, zr _ _, zi _], zO _ [zi _, zi _, zr _ _], zAi 0 24 _, zH, zAi 0 n _, zAi 0 n _]) rfl ?_
          refine z_seq (S' := zi _ :: _) rfl ?_
          refine z_ialdN F rfl (by omega) (by omega) rfl dX12_go_138 ?_
          refine z_ieq (g1) ?_
          refine z_callV F (c_flApart w v (p t) ls1 hw hw2 (by omega) (by omega)) 2 rfl (lw_V q1263 q1265 qs28 q140 q1266) (by decide +kernel) ⟨by omega, Nat.le_of_ble_eq_true rfl⟩ ⟨by omega, by omega⟩ [0, 1, 2, 3, 4, 5, 6] 7 ⟨rfl, rfl, rfl, ⟨Or.inl rfl, Or.inr rfl, Or.inl rfl, Or.inl rfl, Or.inl rfl, Or.inl rfl, Or.inl rfl, trivial⟩⟩ (fun h => nomatch h) (Nat.le_of_ble_eq_true rfl) ⟨⟨Or.inr trivial, Or.inl rfl, Or.inr rfl, Or.inr trivial, Or.inr trivial, Or.inr trivial, Or.inr trivial, trivial⟩, rfl, rfl, rfl, Nat.le_of_ble_eq_true rfl⟩ rfl zC12 rfl rfl dX12_go_139 (fun r_139 w_139 hp => ?_) (fun _ _ h => h.elim)
          obtain ⟨rfl, rfl⟩ := hp
          refine z_weq (w' := [zH, zO _ [zr _ _, zi _, zr _ _, zr _ _, zr _ _, zi _], zO _ [zi _, zi _, zr _ _], zAi 0 24 _, zH, zAi 0 n _, zAi 0 n _]) rfl ?_
          refine z_seq (S' := zi _ :: _) rfl ?_
          refine z_iaddN F dX12_go_142 ?_
          refine z_istore F dX12_go_143 (Nat.le_of_ble_eq_true rfl) ?_
          refine z_leq (L' := [_, _, _, _, _, _, _]) rfl ?_
          exact back t t1 t2 hu2 (by omega)
    have lp : ∀ (u v : Nat) (ls1 : Int32) (Pl1 Bs1 : Nat → Int32) (B1 : fBs), n - v < u → v ≤ n → (∀ i, i < k → Pl1 i = Pl i) → flB B1 n ls1 Bs1 → isMl n (LN n f w) (fun r => S r ∨ (extP k p r ∧ r k < v)) B1 → Z X [some (zr 1 0), some (zi (nI k)), some (zi us), some (zi (nI (fb_sm (moR n f w p) k))), some (zi (nI v)), none, none] [] (wGF n w d ls1 f Pl1 Bs1) 0 0 66 := by
      intro u
      induction u with
      | zero => intro v ls1 Pl1 Bs1 B1 hm; omega
      | succ u ih2 =>
        intro v ls1 Pl1 Bs1 B1 hm hv hT hB1 hM1
        have eal : b1 k - nI 1 = allB k := rfl
        have p2 : ∀ i, i < k → (if i = k then v else p i) = p i := fun i hi => if_neg (by omega)
        have nxt : v < n → (∀ i, i < k → p i ≠ v) → ∀ ls2 Pl2 Bs2 B2, (∀ i, i < k + 1 → Pl2 i = upd Pl1 k (nI v) i) → flB B2 n ls2 Bs2 → isMl n (LN n f w) (fun r => (S r ∨ (extP k p r ∧ r k < v)) ∨ extP (k + 1) (fun i => if i = k then v else p i) r) B2 → Z X [some (zr 1 0), some (zi (nI k)), some (zi us), some (zi (nI (fb_sm (moR n f w p) k))), some (zi (nI (v + 1))), none, none] [] (wGF n w d ls2 f Pl2 Bs2) 0 0 66 := fun hvn hne ls2 Pl2 Bs2 B2 q1 q2 q3 => ih2 (v + 1) ls2 Pl2 Bs2 B2 (by omega) (by omega) (fun i hi => by
          rw [q1 i (by omega)]
          show (if i = k then _ else Pl1 i) = _
          rw [if_neg (by omega)]; exact hT i hi) q2 (isMl_cg q3 (fun r hr => by
          constructor
          · rintro ((z | z) | z)
            · exact Or.inl z
            · exact Or.inr ⟨z.1, by omega⟩
            · refine Or.inr ⟨fun i hi => (z i (by omega)).trans (p2 i hi), ?_⟩
              have e : r k = (if k = k then v else p k) := z k (by omega)
              rw [if_pos rfl] at e; omega
          · rintro (z | ⟨z1, z2⟩)
            · exact Or.inl (Or.inl z)
            · by_cases e : r k = v
              · refine Or.inr (fun i hi => ?_)
                show r i = (if i = k then v else p i)
                by_cases e2 : i = k
                · rw [if_pos e2, e2]; exact e
                · rw [if_neg e2]; exact z1 i (by omega)
              · exact Or.inl (Or.inr ⟨z1, by omega⟩)))
        have call_ : v < n → (∀ i, i < k → p i ≠ v) → Z X [some (zr 1 0), some (zi (nI k)), some (zi us), some (zi (nI (fb_sm (moR n f w p) k))), some (zi (nI v)), some (zi (nI (moR n f w (fun i => if i = k then v else p i) k))), none] [] (wGF n w d ls1 f (upd Pl1 k (nI v)) Bs1) 0 0 157 := by
          intro hvn hne
          have q1 : ∀ i, i < k + 1 → (if i = k then v else p i) < n := fun i hi => by
            split
            · exact hvn
            · exact hp i (by omega)
          have q2 : ∀ i j, i < k + 1 → j < k + 1 → (if i = k then v else p i) = (if j = k then v else p j) → i = j := fun i j hi hj e => by
            by_cases a1 : i = k
            · by_cases a2 : j = k
              · omega
              · rw [if_pos a1, if_neg a2] at e; exact absurd e.symm (hne j (by omega))
            · by_cases a2 : j = k
              · rw [if_neg a1, if_pos a2] at e; exact absurd e (hne i (by omega))
              · rw [if_neg a1, if_neg a2] at e; exact hinj i j (by omega) (by omega) e
          have q3 : ∀ x, bt (us ||| b1 v) x = true ↔ ∃ i, i < k + 1 ∧ (if i = k then v else p i) = x := fun x => by
            rw [bt_or1 _ (by omega), Bool.or_eq_true, decide_eq_true_eq, hus x]
            constructor
            · rintro (⟨i, i1, i2⟩ | z)
              · exact ⟨i, by omega, by rw [if_neg (by omega)]; exact i2⟩
              · exact ⟨k, by omega, by rw [if_pos rfl]; exact z.symm⟩
            · rintro ⟨i, i1, i2⟩
              by_cases e : i = k
              · rw [if_pos e] at i2; exact Or.inr i2.symm
              · rw [if_neg e] at i2; exact Or.inl ⟨i, by omega, i2⟩
          have q4 : ∀ i, i < k + 1 → upd Pl1 k (nI v) i = nI (if i = k then v else p i) := fun i hi => by
            show (if i = k then _ else Pl1 i) = nI (if i = k then v else p i)
            by_cases e : i = k
            · rw [if_pos e, if_pos e]
            · rw [if_neg e, if_neg e, hT i (by omega)]; exact hPl i (by omega)
          have q5 : ∀ r s, isP n r → (S r ∨ (extP k p r ∧ r k < v)) → isP n s → extP (k + 1) (fun i => if i = k then v else p i) s → lxL n r s := fun r s hr hs hss he => by
            have he2 : extP k p s := fun i hi => (he i (by omega)).trans (p2 i hi)
            rcases hs with z | ⟨z1, z2⟩
            · exact hlt r s hr z hss he2
            · refine ⟨k, hkn, fun i hi => (z1 i hi).trans (he2 i hi).symm, ?_⟩
              have e : s k = (if k = k then v else p k) := he k (by omega)
              rw [if_pos rfl] at e; omega
          have q6 : fb_sm (moR n f w (fun i => if i = k then v else p i)) (k + 1) = fb_sm (moR n f w p) k + moR n f w (fun i => if i = k then v else p i) k := by
            rw [fb_sm_succ, lnK_cg (q := p) p2]
          have cc := ih (k + 1) (us ||| b1 v) (fun i => if i = k then v else p i) _ B1 ls1 (upd Pl1 k (nI v)) Bs1 (by omega) q1 q2 q3 q4 hM1 q5 hB1
          rw [q6] at cc
          refine z_aload_n F dX12_go_157 rfl ?_
          refine z_iload_n F dX12_go_158 rfl ?_
          refine z_iconst F (nI 1) dX12_go_159 rfl ?_
          refine z_iaddN F dX12_go_160 ?_
          refine z_iload_n F dX12_go_161 rfl ?_
          refine z_iconst F (nI 1) dX12_go_162 rfl ?_
          refine z_iload F dX12_go_163 rfl ?_
          refine z_ishlB F dX12_go_165 ?_
          refine z_ior F dX12_go_166 ?_
          refine z_iload_n F dX12_go_167 rfl ?_
          refine z_iload F dX12_go_168 rfl ?_
          refine z_iaddN F dX12_go_170 ?_
          refine z_callV F (cc) 3 rfl (lw_V q1258 q1260 qs27 q140 q1261) (by decide +kernel) ⟨by omega, Nat.le_of_ble_eq_true rfl⟩ ⟨by omega, by omega⟩ [0, 1, 2, 3, 4, 5, 6] 7 ⟨rfl, rfl, rfl, ⟨Or.inl rfl, Or.inr rfl, Or.inr rfl, Or.inr rfl, Or.inl rfl, Or.inr rfl, Or.inr rfl, trivial⟩⟩ (fun h => nomatch h) (Nat.le_of_ble_eq_true rfl) ⟨⟨Or.inr trivial, Or.inl rfl, Or.inl rfl, Or.inl rfl, Or.inr trivial, Or.inl rfl, Or.inl rfl, trivial⟩, rfl, rfl, rfl, Nat.le_of_ble_eq_true rfl⟩ rfl zC12 rfl rfl dX12_go_171 (fun r_171 w_171 hp => ?_) (fun _ _ h => h.elim)
          obtain ⟨rfl, ls2, Pl2, Bs2, B2, rfl, r1, r2, r3⟩ := hp
          refine z_weq (w' := [zH, zO _ [zr _ _, zi _, zr _ _, zr _ _, zr _ _, zi _], zO _ [zi _, zi _, zr _ _], zAi 0 24 _, zH, zAi 0 n _, zAi 0 n _]) rfl ?_
          refine z_seq (S' := []) rfl ?_
          refine z_iincN F 1 dX12_go_174 rfl rfl ?_
          refine z_leq (L' := [_, _, _, _, _, _, _]) rfl ?_
          refine z_goto F (tgt := 66) dX12_go_177 (by decide) ?_
          refine z_loc _ ?_ (nxt hvn hne ls2 Pl2 Bs2 B2 r1 r2 r3)
          exact ⟨rfl, rfl, rfl, rfl, rfl, trivial⟩
        refine z_iload F dX12_go_66 rfl ?_
        refine z_aload_n F dX12_go_68 rfl ?_
        refine z_get F zC12 (f := 0) rfl (Nat.le_of_ble_eq_true rfl) q1234 rfl dX12_go_69 ?_
        refine z_getN F zC5 (f := 0) rfl (Nat.le_of_ble_eq_true rfl) q238 rfl dX12_go_72 ?_
        refine z_icmp_geN F (by omega) (by omega) (tgt := 180) dX12_go_75 (by decide) (fun c_75 => ?_) (fun c_75 => ?_)
        · exact z_vret F E rfl dX12_go_180 (by omega) (by omega) (⟨rfl, ls1, Pl1, Bs1, B1, rfl, hT, hB1, isMl_cg hM1 (fun r hr => ⟨fun z => z.elim Or.inl (fun y => Or.inr y.1), fun z => z.elim Or.inl (fun y => Or.inr ⟨y, by have := hr.1 k hkn; omega⟩)⟩)⟩)
        · refine z_iload_n F dX12_go_78 rfl ?_
          refine z_iload F dX12_go_79 rfl ?_
          refine z_ishr F dX12_go_81 ?_
          refine z_iconst F (nI 1) dX12_go_82 rfl ?_
          refine z_iandB F (by omega) dX12_go_83 ?_
          refine z_iconst F (nI 1) dX12_go_84 rfl ?_
          refine z_icmp_neB F (tgt := 91) dX12_go_85 (by decide) (fun c_85 => ?_) (fun c_85 => ?_)
          · have hne : ∀ i, i < k → p i ≠ v := fun i hi z => by
              rw [(hus v).mpr ⟨i, hi, z⟩] at c_85; cases c_85
            refine z_aload_n F dX12_go_91 rfl ?_
            refine z_get F zC12 (f := 3) rfl (Nat.le_of_ble_eq_true rfl) q1237 rfl dX12_go_92 ?_
            refine z_iload_n F dX12_go_95 rfl ?_
            refine z_iload F dX12_go_96 rfl ?_
            refine z_iastN F rfl (by omega) (by omega) dX12_go_98 ?_
            refine z_weq (w' := [_, _, _, _, _, _, _]) rfl ?_
            refine z_iconst F (nI 0) dX12_go_99 rfl ?_
            refine z_istore F dX12_go_100 (Nat.le_of_ble_eq_true rfl) ?_
            refine z_leq (L' := [_, _, _, _, _, _, _]) rfl ?_
            refine z_aload_n F dX12_go_102 rfl ?_
            refine z_get F zC12 (f := 0) rfl (Nat.le_of_ble_eq_true rfl) q1234 rfl dX12_go_103 ?_
            refine z_getN F zC5 (f := 2) rfl (Nat.le_of_ble_eq_true rfl) q254 rfl dX12_go_106 ?_
            refine z_iload_n F dX12_go_109 rfl ?_
            refine z_ialdN F rfl (Nat.le_of_ble_eq_true rfl) (by omega) rfl dX12_go_110 ?_
            refine z_iconst F (nI 1) dX12_go_111 rfl ?_
            refine z_iload_n F dX12_go_112 rfl ?_
            refine z_ishlB F dX12_go_113 ?_
            refine z_iconst F (1) dX12_go_114 rfl ?_
            refine z_isub F dX12_go_115 ?_
            refine z_iand F dX12_go_116 ?_
            refine z_istore F dX12_go_117 (Nat.le_of_ble_eq_true rfl) ?_
            refine z_leq (L' := [_, _, _, _, _, _, _]) rfl ?_
            refine bits v ls1 (upd Pl1 k (nI v)) Bs1 (by omega) (fun i hi => ?_) (call_ (by omega) hne) _ (f k &&& allB k) 0 (Nat.lt_succ_self _) (by omega) (upto_0 _)
            show (if i = k then _ else Pl1 i) = _
            rw [if_neg (by omega), hT i hi]; exact hPl i hi
          · refine z_goto F (tgt := 174) dX12_go_88 (by decide) ?_
            refine z_iincN F 1 dX12_go_174 rfl rfl ?_
            refine z_leq (L' := [_, _, _, _, _, _, _]) rfl ?_
            refine z_goto F (tgt := 66) dX12_go_177 (by decide) ?_
            refine ih2 (v + 1) ls1 Pl1 Bs1 B1 (by omega) (by omega) hT hB1 (isMl_cg hM1 (fun r hr => ⟨fun z => z.elim Or.inl (fun y => Or.inr ⟨y.1, by omega⟩), fun z => z.elim Or.inl (fun y => Or.inr ⟨y.1, ?_⟩)⟩))
            obtain ⟨i, i1, i2⟩ := (hus v).mp c_85
            have : r k ≠ v := fun z => by
              have := hr.2 k i hkn (by omega) (by rw [z, y.1 i i1, i2])
              omega
            omega
    have at17 : Z X [some (zr 1 0), some (zi (nI k)), some (zi us), some (zi (nI (fb_sm (moR n f w p) k))), none, none, none] [] (wGF n w d ls f Pl Bs) 0 0 17 := by
      refine z_iload_n F dX12_go_17 rfl ?_
      refine z_aload_n F dX12_go_18 rfl ?_
      refine z_get F zC12 (f := 0) rfl (Nat.le_of_ble_eq_true rfl) q1234 rfl dX12_go_19 ?_
      refine z_getN F zC5 (f := 0) rfl (Nat.le_of_ble_eq_true rfl) q238 rfl dX12_go_22 ?_
      refine z_icmp_neN F (by omega) (by omega) (tgt := 63) dX12_go_25 (by decide) (fun c_25 => ?_) (fun c_25 => ?_)
      · refine z_iconst F (nI 0) dX12_go_63 rfl ?_
        refine z_istore F dX12_go_64 (Nat.le_of_ble_eq_true rfl) ?_
        refine z_leq (L' := [_, _, _, _, _, _, _]) rfl ?_
        exact lp (n + 1) 0 ls Pl Bs B (by omega) (by omega) (fun _ _ => rfl) hB (isMl_cg hM (fun r _ => ⟨Or.inl, fun z => z.elim id (fun y => absurd y.2 (by omega))⟩))
      · exact absurd c_25 (by omega)
    rcases B with _ | ⟨l, q⟩
    ·
      have hB0 : ls = -1 := hB
      subst hB0
      refine z_aload_n F dX12_go_0 rfl ?_
      refine z_get F zC12 (f := 5) rfl (Nat.le_of_ble_eq_true rfl) q1240 rfl dX12_go_1 ?_
      refine z_iconst F (-1) dX12_go_4 rfl ?_
      refine z_icmp_eq F (tgt := 17) dX12_go_5 (by decide) (fun c_5 => ?_) (fun c_5 => ?_)
      · exact at17
      · exact absurd rfl c_5
    obtain ⟨rfl, hl, hbq⟩ := id hB
    refine z_aload_n F dX12_go_0 rfl ?_
    refine z_get F zC12 (f := 5) rfl (Nat.le_of_ble_eq_true rfl) q1240 rfl dX12_go_1 ?_
    refine z_iconst F (-1) dX12_go_4 rfl ?_
    refine z_icmp_eq F (tgt := 17) dX12_go_5 (by decide) (fun c_5 => ?_) (fun c_5 => ?_)
    · exact absurd c_5 (nI_ne (by omega))
    · refine z_iload_n F dX12_go_8 rfl ?_
      refine z_aload_n F dX12_go_9 rfl ?_
      refine z_get F zC12 (f := 5) rfl (Nat.le_of_ble_eq_true rfl) q1240 rfl dX12_go_10 ?_
      refine z_icmp_ltN F (by omega) (by omega) (tgt := 17) dX12_go_13 (by decide) (fun c_13 => ?_) (fun c_13 => ?_)
      · exact at17
      · exact z_vret F E rfl dX12_go_16 (by omega) (by omega) (⟨rfl, _, Pl, Bs, some (l, q), rfl, fun _ _ => rfl, hB, isMl_keep hM (fun r hr ht => ⟨Nat.le_trans (by rw [lnK_cg (fun i hi => ht i hi)]; omega) (LN_part h.sy (show k ≤ n by omega)), hlt q r (hM.2 l q rfl).2.1 (hM.2 l q rfl).1 hr ht⟩)⟩)
end C9q
