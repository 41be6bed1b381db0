/-! read: the reader reads (gena5.py) -/
section CA5
section RA5
variable {X : zX} {cc : ByteArray} {own : String} {ret : Option FieldType} {nL d mc ms nw : Nat} {np : Bool} {L : List (Option zV)} {S : List zV} {w : List zE} {k n pc : Nat} {post : Option zV → List zE → Prop} {xpost : String → List zE → Prop}
/-- thrown: the places told anew -/
theorem zx_perm (F : zFix X cc own ret nL d mc ms nw np) {σ : List Nat} {N m pe : Nat} {Ex : String} {w0 : List zE} (hz : zcall σ N w w0) (hpe : zsg σ N m = pe) (hag : ∀ p, p < nw → zsg σ N p = p) (kk : ZX X (List.replicate L.length none) w0 k n pc Ex m) : ZX X L w k n pc Ex pe := fun ad H locs ls st ce h0 h1 h2 h3 h4 h5 h6 h7 => by
  have e : zadc σ N ad m 0 = ad pe 0 := by show ad (zsg σ N m) 0 = _; rw [hpe]
  have hL : zLh (zadc σ N ad) ls (List.replicate L.length none) := ⟨h4.1.trans (by rw [List.length_replicate]), h4.2.1, fun q hq => by
    obtain ⟨v, h, -⟩ := zal_mem.mp (show (q.1, q.2) ∈ zal (zadc σ N ad) (List.replicate L.length none) from hq)
    rw [List.getElem?_replicate] at h
    split at h
    · cases h
    · cases h⟩
  have hh := kk (zadc σ N ad) H locs ls st ce (fun p j hp hl => by
    have : p < nw := by rw [← F.2.2.2.2.2.2.2.2.2.2.2.1]; exact hl
    show ad (zsg σ N p) j = _
    rw [hag p this]
    exact h0 p j hp hl) (hz.rel h1) (hz.inj h2 (fun _ q => q)) h3 hL
  rw [e] at hh
  exact hh h5 h6 h7
end RA5
abbrev rTC (t : Nat) (fp : Int32) (T : Nat → Int32) (n d : Nat) (f g : Nat → Int32) (tb : Nat → Nat) (z b u m c e : Nat) : List zE := [zH, xO t fp, zAi 3 400 T, zH, zH, zH, zH, zH, zH, zH, zH, zH, zH, zH, zH, zH, zH, zH, zH, zH, zH, zH, eRd z (en tb z b) (kd tb z b) b (en tb z b) u m (zr 25 0) c, zAi 0 12 g, eWr e, eNet 26 (nI n) (nI d), zAi 0 24 f]
theorem zx_rd {X : zX} {cc : ByteArray} {own : String} {ret : Option FieldType} {nL d0 mc ms : Nat} {np : Bool} {L : List (Option zV)} {k n0 pc : Nat} {post : Option zV → List zE → Prop} {xpost : String → List zE → Prop} (F : zFix X cc own ret nL d0 mc ms 24 np) (E : zEnd X post xpost mc ms) (hno : zNoH X) (t : Nat) (fp : Int32) (T : Nat → Int32) (n d : Nat) (f g : Nat → Int32) (tb : Nat → Nat) (z b u m c e : Nat) (hk : k ≤ mc) (hn : n0 ≤ ms) (hp : xpost eWrg (rTC t fp T n d f g tb z b u m c e)) : ZX X L (rTB t fp T n d f g tb z b u m c ++ [eWr e]) k n0 pc eWrg 26 :=
  zx_perm F (σ := [0, 1, 2, 3, 4, 5, 6, 7, 8, 9, 10, 11, 12, 13, 14, 15, 16, 17, 18, 19, 20, 21, 22, 23, 26, 24, 25]) (N := 27) (w0 := rTC t fp T n d f g tb z b u m c e) (m := 24) ⟨rfl, rfl, rfl, ⟨Or.inl rfl, Or.inr rfl, Or.inr rfl, Or.inr rfl, Or.inr rfl, Or.inr rfl, Or.inr rfl, Or.inr rfl, Or.inr rfl, Or.inr rfl, Or.inr rfl, Or.inr rfl, Or.inr rfl, Or.inr rfl, Or.inr rfl, Or.inr rfl, Or.inr rfl, Or.inr rfl, Or.inr rfl, Or.inr rfl, Or.inr rfl, Or.inr rfl, Or.inr rfl, Or.inr rfl, Or.inr rfl, Or.inr rfl, Or.inr rfl, trivial⟩⟩ rfl (by decide) (zx_out F E hno hk hn hp)
theorem c_clause_t (Dg : va_G) (t : Nat) (fp : Int32) (T : Nat → Int32) (n d : Nat) (f g : Nat → Int32) (tb : Nat → Nat) (z b u m c : Nat) (hz : z ≤ 400) (hT : tBy T tb z) (htb : ∀ i, tb i < 256) (hb : b ≤ z) (hc : c ≤ 20) (hu : TS tb z u b) (hf : nok n d f) (h : (clS tb z n d f c b).1 = 0) : zCtrD Dg yX7_clause cX7_clause 8 none 6 0 0 [zr 22 0] (rTB t fp T n d f g tb z b u m c) (fun r w => r = none ∧ ∃ u' m' g', TS tb z u' (clS tb z n d f c b).2.1 ∧ w = rTB t fp T n d (clS tb z n d f c b).2.2 g' tb z (clS tb z n d f c b).2.1 u' m' (c + 1)) zNx :=
  c_clauseG Dg t fp T n d f g tb z b u m c hz hT htb hb hc hu hf (fun _ u' m' g' hh => ⟨rfl, u', m', g', hh, rfl⟩) (fun q => absurd h q)
theorem c_clause_f (Dg : va_G) (t : Nat) (fp : Int32) (T : Nat → Int32) (n d : Nat) (f g : Nat → Int32) (tb : Nat → Nat) (z b u m c : Nat) (hz : z ≤ 400) (hT : tBy T tb z) (htb : ∀ i, tb i < 256) (hb : b ≤ z) (hc : c ≤ 20) (hu : TS tb z u b) (hf : nok n d f) (h : (clS tb z n d f c b).1 ≠ 0) : zCtrD Dg yX7_clause cX7_clause 8 none 6 1 7 [zr 22 0] (rTB t fp T n d f g tb z b u m c) (fun r w => False) (fun E w => E = eWrg ∧ ∃ f' g' u' m' c', w = rTB t fp T n d f' g' tb z (clS tb z n d f c b).2.1 u' m' c' ++ [eWr (clS tb z n d f c b).1]) :=
  c_clauseG Dg t fp T n d f g tb z b u m c hz hT htb hb hc hu hf (fun q => absurd q h) (fun _ => ⟨Nat.le_refl _, Nat.le_refl _, fun f' g' u' m' c' => ⟨rfl, f', g', u', m', c', rfl⟩⟩)
theorem c_rd7 (Dg : va_G) (t : Nat) (fp : Int32) (T g : Nat → Int32) (tb : Nat → Nat) (z : Nat) (hz : z ≤ 400) (hT : tBy T tb z) (htb : ∀ i, tb i < 256) : zCtrD Dg yX7_read cX7_read 2 (some (.object "WiredNets$Net")) 7 3 34 [zr 22 0] (rWA t fp T g z 0 0 0 0 0 0 0)
    (fun r w => ∃ n d f g' b u m c, rdS tb z = .inr (n, d, f) ∧ r = some (zr 24 0) ∧ w = rTB t fp T n d f g' tb z b u m c)
    (fun E w => E = eWrg ∧ ∃ e b g' u m c, rdS tb z = .inl (e, b) ∧ (w = rTA t fp T g' tb z b u m c ++ [eWr e] ∨ ∃ n d f, w = rTC t fp T n d f g' tb z b u m c e)) := by
  refine z_startD (by decide) [some (zr 22 0), none] rfl (fun _ => Nat.le_of_ble_eq_true rfl) (fun _ => rfl) (fun X hD F E hno hin => ?_)
  subst hD
  obtain ⟨o1, o2, o3, o4, o5⟩ := rq_ok tb z
  have hb0 : sk tb z 0 ≤ z := (sk_ge tb z 0).2 (by omega)
  -- the clauses
  have loop : ∀ (n d : Nat), n = rqN tb z → d = rqD tb z → (rq5 tb z).1 = 0 → ∀ (x c b u m : Nat) (f g1 : Nat → Int32), x + c = 22 → c ≤ 20 → b ≤ z → TS tb z u b → nok n d f → rqR tb z = csS tb z n d x f c b → Z X [some (zr 22 0), none] [] (rTB t fp T n d f g1 tb z b u m c) 2 27 47 := by
    intro n d hn hd h5 x
    induction x with
    | zero => intro c b u m f g1 hx hc; omega
    | succ x ih =>
      intro c b u m f g1 hx hc hb hu hf hR
      have hk5 := kd_lt tb z b
      rw [csS] at hR
      by_cases hk0 : kd tb z b = 0
      · rw [if_pos hk0] at hR
        refine z_aload_n F dX7_read_47 rfl ?_
        refine z_get F zC7 (f := 3) rfl (Nat.le_of_ble_eq_true rfl) q565 rfl dX7_read_48 ?_
        refine z_if_eqN F (by omega) (tgt := 61) dX7_read_51 (by decide) (fun c_51 => ?_) (fun c_51 => ?_)
        · refine z_aload_n F dX7_read_61 rfl ?_
          refine z_get F zC7 (f := 8) rfl (Nat.le_of_ble_eq_true rfl) q571 rfl dX7_read_62 ?_
          exact z_aret F E rfl (Or.inl ⟨_, rfl⟩) dX7_read_65 (by omega) (by omega) (⟨n, d, f, g1, b, u, m, c, by rw [rdS_R h5, hR, ← hn, ← hd]; rfl, rfl, rfl⟩)
        · exact absurd c_51 (by omega)
      · rw [if_neg hk0] at hR
        by_cases e0 : (clS tb z n d f c b).1 = 0
        · rw [if_neg (fun q => q e0)] at hR
          have hc20 : c ≠ 20 := fun q => by rw [q] at e0; exact clS_20 e0
          obtain ⟨w1, w2, w3⟩ := clS_ok (tb := tb) (z := z) (c := c) hf hb
          refine z_aload_n F dX7_read_47 rfl ?_
          refine z_get F zC7 (f := 3) rfl (Nat.le_of_ble_eq_true rfl) q565 rfl dX7_read_48 ?_
          refine z_if_eqN F (by omega) (tgt := 61) dX7_read_51 (by decide) (fun c_51 => ?_) (fun c_51 => ?_)
          · exact absurd c_51 (by omega)
          · refine z_aload_n F dX7_read_54 rfl ?_
            refine z_callVD F (c_clause_t _ t fp T n d f g1 tb z b u m c hz hT htb hb hc hu hf e0) 0 rfl (lw_V q717 q719 qs11 q125 q720) (by decide +kernel) ⟨Nat.le_of_ble_eq_true rfl, Nat.le_of_ble_eq_true rfl⟩ ⟨by omega, by omega⟩ [0, 1, 2, 3, 4, 5, 6, 7, 8, 9, 10, 11, 12, 13, 14, 15, 16, 17, 18, 19, 20, 21, 22, 23, 24, 25] 26 ⟨rfl, rfl, rfl, ⟨Or.inl rfl, Or.inr rfl, Or.inr rfl, Or.inl rfl, Or.inl rfl, Or.inl rfl, Or.inl rfl, Or.inl rfl, Or.inl rfl, Or.inl rfl, Or.inl rfl, Or.inl rfl, Or.inl rfl, Or.inl rfl, Or.inl rfl, Or.inl rfl, Or.inl rfl, Or.inl rfl, Or.inl rfl, Or.inl rfl, Or.inl rfl, Or.inl rfl, Or.inr rfl, Or.inr rfl, Or.inr rfl, Or.inr rfl, trivial⟩⟩ (fun h => nomatch h) (Nat.le_of_ble_eq_true rfl) ⟨⟨Or.inr trivial, Or.inl rfl, Or.inl rfl, Or.inr trivial, Or.inr trivial, Or.inr trivial, Or.inr trivial, Or.inr trivial, Or.inr trivial, Or.inr trivial, Or.inr trivial, Or.inr trivial, Or.inr trivial, Or.inr trivial, Or.inr trivial, Or.inr trivial, Or.inr trivial, Or.inr trivial, Or.inr trivial, Or.inr trivial, Or.inr trivial, Or.inr trivial, Or.inl rfl, Or.inl rfl, Or.inl rfl, Or.inl rfl, trivial⟩, rfl, rfl, rfl, Nat.le_of_ble_eq_true rfl⟩ rfl zC7 rfl rfl dX7_read_55 (fun r_55 w_55 hp => ?_) (fun _ _ h => h.elim)
            obtain ⟨rfl, u2, m2, g2, hu2, rfl⟩ := hp
            refine z_weq (w' := [zH, zO _ [zr _ _, zr _ _, zr _ _, zr _ _, zr _ _, zi _, zi _, zr _ _, zr _ _], zAi 3 400 _, zH, zH, zH, zH, zH, zH, zH, zH, zH, zH, zH, zH, zH, zH, zH, zH, zH, zH, zH, zO _ [zi _, zr _ _, zi _, zi _, zi _, zi _, zi _, zi _, zr _ _, zi _, zr _ _], zAi 0 12 _, zO _ [zi _, zi _, zr _ _], zAi 0 24 _]) rfl ?_
            refine z_seq (S' := []) rfl ?_
            refine z_goto F (tgt := 47) dX7_read_58 (by decide) ?_
            exact ih (c + 1) _ u2 m2 _ g2 (by omega) (by omega) w2 hu2 (w3 e0) hR
        · rw [if_pos e0] at hR
          have hrd : rdS tb z = .inl ((clS tb z n d f c b).1, (clS tb z n d f c b).2.1) := by rw [rdS_R h5, hR, if_pos e0]
          refine z_aload_n F dX7_read_47 rfl ?_
          refine z_get F zC7 (f := 3) rfl (Nat.le_of_ble_eq_true rfl) q565 rfl dX7_read_48 ?_
          refine z_if_eqN F (by omega) (tgt := 61) dX7_read_51 (by decide) (fun c_51 => ?_) (fun c_51 => ?_)
          · exact absurd c_51 (by omega)
          · refine z_aload_n F dX7_read_54 rfl ?_
            refine z_callVD F (c_clause_f _ t fp T n d f g1 tb z b u m c hz hT htb hb hc hu hf e0) 0 rfl (lw_V q717 q719 qs11 q125 q720) (by decide +kernel) ⟨Nat.le_of_ble_eq_true rfl, Nat.le_of_ble_eq_true rfl⟩ ⟨by omega, by omega⟩ [0, 1, 2, 3, 4, 5, 6, 7, 8, 9, 10, 11, 12, 13, 14, 15, 16, 17, 18, 19, 20, 21, 22, 23, 24, 25] 26 ⟨rfl, rfl, rfl, ⟨Or.inl rfl, Or.inr rfl, Or.inr rfl, Or.inl rfl, Or.inl rfl, Or.inl rfl, Or.inl rfl, Or.inl rfl, Or.inl rfl, Or.inl rfl, Or.inl rfl, Or.inl rfl, Or.inl rfl, Or.inl rfl, Or.inl rfl, Or.inl rfl, Or.inl rfl, Or.inl rfl, Or.inl rfl, Or.inl rfl, Or.inl rfl, Or.inl rfl, Or.inr rfl, Or.inr rfl, Or.inr rfl, Or.inr rfl, trivial⟩⟩ (fun h => nomatch h) (Nat.le_of_ble_eq_true rfl) ⟨⟨Or.inr trivial, Or.inl rfl, Or.inl rfl, Or.inr trivial, Or.inr trivial, Or.inr trivial, Or.inr trivial, Or.inr trivial, Or.inr trivial, Or.inr trivial, Or.inr trivial, Or.inr trivial, Or.inr trivial, Or.inr trivial, Or.inr trivial, Or.inr trivial, Or.inr trivial, Or.inr trivial, Or.inr trivial, Or.inr trivial, Or.inr trivial, Or.inr trivial, Or.inl rfl, Or.inl rfl, Or.inl rfl, Or.inl rfl, trivial⟩, rfl, rfl, rfl, Nat.le_of_ble_eq_true rfl⟩ rfl zC7 rfl rfl dX7_read_55 (fun r_55 w_55 hp => ?_) (fun E_ w_ hx => by obtain ⟨rfl, f2, g2, u2, m2, c2, rfl⟩ := hx; exact zx_rd F E hno t fp T n d f2 g2 tb z _ u2 m2 c2 _ (by omega) (by omega) ⟨rfl, _, _, g2, u2, m2, c2, hrd, Or.inr ⟨n, d, f2, rfl⟩⟩)
            exact hp.elim
  -- the sign behind the head
  have at43 : (rq4 tb z).1 = 0 → ∀ (n d b u m c : Nat) (f0 : Nat → Int32), n = rqN tb z → d = rqD tb z → b = (rq4 tb z).2 → TS tb z u b → c = 0 → f0 = (fun _ => nI 0) → Z X [some (zr 22 0), none] [] (rTB t fp T n d f0 g tb z b u m c) 2 27 43 := by
    intro h4 n d b u m c f0 hn hd hb hu hc hf0
    subst hc
    subst hf0
    have hbz : b ≤ z := by rw [hb]; exact o4.1
    have e5 : rq5 tb z = needS tb z 0 b (decide (kd tb z b = 3)) := by unfold rq5; rw [h4, hb]
    by_cases h3 : kd tb z b = 3
    · rw [decide_eq_true h3, needS_t] at e5
      have h5 : (rq5 tb z).1 = 0 := by rw [e5]
      obtain ⟨-, -, n1, n2, d1, d2⟩ := rq_0 h5
      have hf : nok n d (fun _ => nI 0) := by rw [hn, hd]; exact nok_zero0 n1 n2 d1 d2
      have hR : rqR tb z = csS tb z n d 22 (fun _ => nI 0) 0 (nb tb z b) := by unfold rqR; rw [e5, hn, hd]
      refine z_aload_n F dX7_read_43 rfl ?_
      refine z_callV F (c_semi_t t fp T n d (fun _ => nI 0) g tb z b u m 0 hz hT htb hbz h3) 0 rfl (lw_V q713 q715 qs10 q125 q716) (by decide +kernel) ⟨Nat.le_of_ble_eq_true rfl, Nat.le_of_ble_eq_true rfl⟩ ⟨by omega, by omega⟩ [0, 1, 2, 3, 4, 5, 6, 7, 8, 9, 10, 11, 12, 13, 14, 15, 16, 17, 18, 19, 20, 21, 22, 23, 24, 25] 26 ⟨rfl, rfl, rfl, ⟨Or.inl rfl, Or.inr rfl, Or.inr rfl, Or.inl rfl, Or.inl rfl, Or.inl rfl, Or.inl rfl, Or.inl rfl, Or.inl rfl, Or.inl rfl, Or.inl rfl, Or.inl rfl, Or.inl rfl, Or.inl rfl, Or.inl rfl, Or.inl rfl, Or.inl rfl, Or.inl rfl, Or.inl rfl, Or.inl rfl, Or.inl rfl, Or.inl rfl, Or.inr rfl, Or.inr rfl, Or.inr rfl, Or.inr rfl, trivial⟩⟩ (fun h => nomatch h) (Nat.le_of_ble_eq_true rfl) ⟨⟨Or.inr trivial, Or.inl rfl, Or.inl rfl, Or.inr trivial, Or.inr trivial, Or.inr trivial, Or.inr trivial, Or.inr trivial, Or.inr trivial, Or.inr trivial, Or.inr trivial, Or.inr trivial, Or.inr trivial, Or.inr trivial, Or.inr trivial, Or.inr trivial, Or.inr trivial, Or.inr trivial, Or.inr trivial, Or.inr trivial, Or.inr trivial, Or.inr trivial, Or.inl rfl, Or.inl rfl, Or.inl rfl, Or.inl rfl, trivial⟩, rfl, rfl, rfl, Nat.le_of_ble_eq_true rfl⟩ rfl zC7 rfl rfl dX7_read_44 (fun r_44 w_44 hp => ?_) (fun _ _ h => h.elim)
      obtain ⟨rfl, rfl⟩ := hp
      refine z_weq (w' := [zH, zO _ [zr _ _, zr _ _, zr _ _, zr _ _, zr _ _, zi _, zi _, zr _ _, zr _ _], zAi 3 400 _, zH, zH, zH, zH, zH, zH, zH, zH, zH, zH, zH, zH, zH, zH, zH, zH, zH, zH, zH, zO _ [zi _, zr _ _, zi _, zi _, zi _, zi _, zi _, zi _, zr _ _, zi _, zr _ _], zAi 0 12 _, zO _ [zi _, zi _, zr _ _], zAi 0 24 _]) rfl ?_
      refine z_seq (S' := []) rfl ?_
      exact loop n d hn hd h5 22 0 _ _ m _ g rfl (by omega) (nb_le hbz) (nuV_ok hu.1) hf hR
    · rw [decide_eq_false h3, needS_f] at e5
      have hrd := rdS_5 (tb := tb) (z := z) (by rw [e5]; exact Nat.one_ne_zero)
      rw [e5] at hrd
      refine z_aload_n F dX7_read_43 rfl ?_
      refine z_callV F (c_semi_f t fp T n d (fun _ => nI 0) g tb z b u m 0 hz hT htb hbz h3) 0 rfl (lw_V q713 q715 qs10 q125 q716) (by decide +kernel) ⟨Nat.le_of_ble_eq_true rfl, Nat.le_of_ble_eq_true rfl⟩ ⟨by omega, by omega⟩ [0, 1, 2, 3, 4, 5, 6, 7, 8, 9, 10, 11, 12, 13, 14, 15, 16, 17, 18, 19, 20, 21, 22, 23, 24, 25] 26 ⟨rfl, rfl, rfl, ⟨Or.inl rfl, Or.inr rfl, Or.inr rfl, Or.inl rfl, Or.inl rfl, Or.inl rfl, Or.inl rfl, Or.inl rfl, Or.inl rfl, Or.inl rfl, Or.inl rfl, Or.inl rfl, Or.inl rfl, Or.inl rfl, Or.inl rfl, Or.inl rfl, Or.inl rfl, Or.inl rfl, Or.inl rfl, Or.inl rfl, Or.inl rfl, Or.inl rfl, Or.inr rfl, Or.inr rfl, Or.inr rfl, Or.inr rfl, trivial⟩⟩ (fun h => nomatch h) (Nat.le_of_ble_eq_true rfl) ⟨⟨Or.inr trivial, Or.inl rfl, Or.inl rfl, Or.inr trivial, Or.inr trivial, Or.inr trivial, Or.inr trivial, Or.inr trivial, Or.inr trivial, Or.inr trivial, Or.inr trivial, Or.inr trivial, Or.inr trivial, Or.inr trivial, Or.inr trivial, Or.inr trivial, Or.inr trivial, Or.inr trivial, Or.inr trivial, Or.inr trivial, Or.inr trivial, Or.inr trivial, Or.inl rfl, Or.inl rfl, Or.inl rfl, Or.inl rfl, trivial⟩, rfl, rfl, rfl, Nat.le_of_ble_eq_true rfl⟩ rfl zC7 rfl rfl dX7_read_44 (fun r_44 w_44 hp => ?_) (fun E_ w_ hx => by obtain ⟨rfl, hb, rfl⟩ := hx; exact zx_rd F E hno t fp T n d _ g tb z b u m 0 1 (by omega) (by omega) ⟨rfl, _, _, g, u, m, 0, hrd, Or.inr ⟨n, d, _, rfl⟩⟩)
      exact hp.elim
  -- the degree
  have at24 : (rq3 tb z).1 = 0 → ∀ (n b u m : Nat), n = rqN tb z → n < 100 → b = (rq3 tb z).2 → TS tb z u b → Z X [some (zr 22 0), some (zi (nI n))] [] (rTA t fp T g tb z b u m 0) 0 0 24 := by
    intro h3 n b u m hn hn100 hb hu
    have hbz : b ≤ z := by rw [hb]; exact o3.1
    have e4 : rq4 tb z = numS tb z 1 8 0 b := by unfold rq4; rw [h3, hb]
    by_cases hE : nuE tb z 1 8 b = 0
    · rw [numS_0 hE] at e4
      refine z_aload_n F dX7_read_24 rfl ?_
      refine z_new F 24 [zi 0, zi 0, zn] zC5 q711 q232 q116 (fun _ j hj => by match j, hj with | 0, _ => rfl | 1, _ => rfl | 2, _ => rfl) rfl (Nat.le_of_ble_eq_true rfl) (Nat.le_of_ble_eq_true rfl) ⟨trivial, rfl, trivial, trivial, trivial, trivial, trivial, trivial, trivial, trivial, trivial, trivial, trivial, trivial, trivial, trivial, trivial, trivial, trivial, trivial, trivial, trivial, rfl, trivial, trivial⟩ rfl rfl ⟨by omega, by omega⟩ dX7_read_25 ?_
      refine z_weq (w' := [_, _, _, _, _, _, _, _, _, _, _, _, _, _, _, _, _, _, _, _, _, _, _, _, _]) rfl ?_
      refine z_dup F dX7_read_28 rfl ?_
      refine z_iload_n F dX7_read_29 rfl ?_
      refine z_aload_n F dX7_read_30 rfl ?_
      refine z_iconst F (nI 1) dX7_read_31 rfl ?_
      refine z_bipush F (nI 8) dX7_read_32 rfl ?_
      refine z_callV F (c_number_t t fp T g tb z b u m 0 1 8 hz hT htb hbz (by omega) (by omega) hu.2 hE) 2 rfl (lw_V q706 q708 qs9 q125 q709) (by decide +kernel) ⟨Nat.le_of_ble_eq_true rfl, Nat.le_of_ble_eq_true rfl⟩ ⟨by omega, by omega⟩ [0, 1, 2, 3, 4, 5, 6, 7, 8, 9, 10, 11, 12, 13, 14, 15, 16, 17, 18, 19, 20, 21, 22, 23] 25 ⟨rfl, rfl, rfl, ⟨Or.inl rfl, Or.inr rfl, Or.inr rfl, Or.inl rfl, Or.inl rfl, Or.inl rfl, Or.inl rfl, Or.inl rfl, Or.inl rfl, Or.inl rfl, Or.inl rfl, Or.inl rfl, Or.inl rfl, Or.inl rfl, Or.inl rfl, Or.inl rfl, Or.inl rfl, Or.inl rfl, Or.inl rfl, Or.inl rfl, Or.inl rfl, Or.inl rfl, Or.inr rfl, Or.inr rfl, trivial⟩⟩ (fun h => nomatch h) (Nat.le_of_ble_eq_true rfl) ⟨⟨Or.inr trivial, Or.inl rfl, Or.inl rfl, Or.inr trivial, Or.inr trivial, Or.inr trivial, Or.inr trivial, Or.inr trivial, Or.inr trivial, Or.inr trivial, Or.inr trivial, Or.inr trivial, Or.inr trivial, Or.inr trivial, Or.inr trivial, Or.inr trivial, Or.inr trivial, Or.inr trivial, Or.inr trivial, Or.inr trivial, Or.inr trivial, Or.inr trivial, Or.inl rfl, Or.inl rfl, Or.inr rfl, trivial⟩, rfl, rfl, rfl, Nat.le_of_ble_eq_true rfl⟩ rfl zC7 rfl rfl dX7_read_34 (fun r_34 w_34 hp => ?_) (fun _ _ h => h.elim)
      obtain ⟨rfl, rfl⟩ := hp
      refine z_weq (w' := [zH, zO _ [zr _ _, zr _ _, zr _ _, zr _ _, zr _ _, zi _, zi _, zr _ _, zr _ _], zAi 3 400 _, zH, zH, zH, zH, zH, zH, zH, zH, zH, zH, zH, zH, zH, zH, zH, zH, zH, zH, zH, zO _ [zi _, zr _ _, zi _, zi _, zi _, zi _, zi _, zi _, zn, zi _, zr _ _], zAi 0 12 _, zO _ [zi _, zi _, zn]]) rfl ?_
      refine z_seq (S' := zi _ :: _) rfl ?_
      refine z_callI F (c_netInit (nI n) (nI (rv tb z b))) 2 rfl (lw_meth q235) q116 q712 q234 rfl (by decide +kernel) ⟨Nat.le_of_ble_eq_true rfl, Nat.le_of_ble_eq_true rfl⟩ ⟨by omega, by omega⟩ [0, 24] 25 ⟨rfl, rfl, rfl, ⟨Or.inl rfl, Or.inr rfl, trivial⟩⟩ (fun h => nomatch h) (Nat.le_of_ble_eq_true rfl) ⟨⟨Or.inr trivial, Or.inr rfl, Or.inr trivial, Or.inr trivial, Or.inr trivial, Or.inr trivial, Or.inr trivial, Or.inr trivial, Or.inr trivial, Or.inr trivial, Or.inr trivial, Or.inr trivial, Or.inr trivial, Or.inr trivial, Or.inr trivial, Or.inr trivial, Or.inr trivial, Or.inr trivial, Or.inr trivial, Or.inr trivial, Or.inr trivial, Or.inr trivial, Or.inr rfl, Or.inr trivial, Or.inl rfl, trivial⟩, rfl, rfl, rfl, Nat.le_of_ble_eq_true rfl⟩ rfl rfl dX7_read_37 (fun r_37 w_37 hp => ?_) (fun _ _ h => h.elim)
      obtain ⟨rfl, rfl⟩ := hp
      refine z_weq (w' := [zH, zO _ [zr _ _, zr _ _, zr _ _, zr _ _, zr _ _, zi _, zi _, zr _ _, zr _ _], zAi 3 400 _, zH, zH, zH, zH, zH, zH, zH, zH, zH, zH, zH, zH, zH, zH, zH, zH, zH, zH, zH, zO _ [zi _, zr _ _, zi _, zi _, zi _, zi _, zi _, zi _, zn, zi _, zr _ _], zAi 0 12 _, zO _ [zi _, zi _, zr _ _], zAi 0 24 _]) rfl ?_
      refine z_seq (S' := [_, _]) rfl ?_
      refine z_put F zC7 (f := 8) rfl (Nat.le_of_ble_eq_true rfl) q571 rfl (fun _ => rfl) (fun _ => rfl) (Nat.le_of_ble_eq_true rfl) dX7_read_40 ?_
      refine z_weq (w' := [_, _, _, _, _, _, _, _, _, _, _, _, _, _, _, _, _, _, _, _, _, _, zO _ [_, _, _, _, _, _, _, _, _, _, _], _, _, _]) rfl ?_
      refine z_loc _ ?_ (at43 (by rw [e4]) n (rv tb z b) _ _ m 0 _ hn (by unfold rqD; rw [hb]) (by rw [e4]) (nuV_ok hu.1) rfl rfl)
      exact ⟨rfl, trivial⟩
    · rw [numS_f hE] at e4
      have hrd := rdS_4 (tb := tb) (z := z) (by rw [e4]; exact hE)
      rw [e4] at hrd
      refine z_aload_n F dX7_read_24 rfl ?_
      refine z_new F 24 [zi 0, zi 0, zn] zC5 q711 q232 q116 (fun _ j hj => by match j, hj with | 0, _ => rfl | 1, _ => rfl | 2, _ => rfl) rfl (Nat.le_of_ble_eq_true rfl) (Nat.le_of_ble_eq_true rfl) ⟨trivial, rfl, trivial, trivial, trivial, trivial, trivial, trivial, trivial, trivial, trivial, trivial, trivial, trivial, trivial, trivial, trivial, trivial, trivial, trivial, trivial, trivial, rfl, trivial, trivial⟩ rfl rfl ⟨by omega, by omega⟩ dX7_read_25 ?_
      refine z_weq (w' := [_, _, _, _, _, _, _, _, _, _, _, _, _, _, _, _, _, _, _, _, _, _, _, _, _]) rfl ?_
      refine z_dup F dX7_read_28 rfl ?_
      refine z_iload_n F dX7_read_29 rfl ?_
      refine z_aload_n F dX7_read_30 rfl ?_
      refine z_iconst F (nI 1) dX7_read_31 rfl ?_
      refine z_bipush F (nI 8) dX7_read_32 rfl ?_
      refine z_callV F (c_number_f t fp T g tb z b u m 0 1 8 hz hT htb hbz (by omega) (by omega) hu.1 hu.2 hE) 2 rfl (lw_V q706 q708 qs9 q125 q709) (by decide +kernel) ⟨Nat.le_of_ble_eq_true rfl, Nat.le_of_ble_eq_true rfl⟩ ⟨by omega, by omega⟩ [0, 1, 2, 3, 4, 5, 6, 7, 8, 9, 10, 11, 12, 13, 14, 15, 16, 17, 18, 19, 20, 21, 22, 23] 25 ⟨rfl, rfl, rfl, ⟨Or.inl rfl, Or.inr rfl, Or.inr rfl, Or.inl rfl, Or.inl rfl, Or.inl rfl, Or.inl rfl, Or.inl rfl, Or.inl rfl, Or.inl rfl, Or.inl rfl, Or.inl rfl, Or.inl rfl, Or.inl rfl, Or.inl rfl, Or.inl rfl, Or.inl rfl, Or.inl rfl, Or.inl rfl, Or.inl rfl, Or.inl rfl, Or.inl rfl, Or.inr rfl, Or.inr rfl, trivial⟩⟩ (fun h => nomatch h) (Nat.le_of_ble_eq_true rfl) ⟨⟨Or.inr trivial, Or.inl rfl, Or.inl rfl, Or.inr trivial, Or.inr trivial, Or.inr trivial, Or.inr trivial, Or.inr trivial, Or.inr trivial, Or.inr trivial, Or.inr trivial, Or.inr trivial, Or.inr trivial, Or.inr trivial, Or.inr trivial, Or.inr trivial, Or.inr trivial, Or.inr trivial, Or.inr trivial, Or.inr trivial, Or.inr trivial, Or.inr trivial, Or.inl rfl, Or.inl rfl, Or.inr rfl, trivial⟩, rfl, rfl, rfl, Nat.le_of_ble_eq_true rfl⟩ rfl zC7 rfl rfl dX7_read_34 (fun r_34 w_34 hp => ?_) (fun E_ w_ hx => by obtain ⟨rfl, hb, rfl⟩ := hx; exact zx_cutO (m := 24) (by decide) (by decide) (Nat.le_of_eq F.2.2.2.2.2.2.2.2.2.2.2.1) (rTA t fp T g tb z b u m 0) rfl rfl rfl ⟨trivial, rfl, trivial, trivial, trivial, trivial, trivial, trivial, trivial, trivial, trivial, trivial, trivial, trivial, trivial, trivial, trivial, trivial, trivial, trivial, trivial, trivial, rfl, trivial, trivial⟩ rfl (zx_out F E hno (by omega) (by omega) ⟨rfl, _, _, g, u, m, 0, hrd, Or.inl rfl⟩))
      exact hp.elim
  -- its word
  have at18 : (rq2 tb z).1 = 0 → ∀ (n b u m : Nat), n = rqN tb z → n < 100 → b = (rq2 tb z).2 → TS tb z u b → Z X [some (zr 22 0), some (zi (nI n))] [] (rTA t fp T g tb z b u m 0) 0 0 18 := by
    intro h2 n b u m hn hn100 hb hu
    have hbz : b ≤ z := by rw [hb]; exact o2.1
    have e3 : rq3 tb z = needS tb z 0 b (isWb tb z b 6) := by unfold rq3; rw [h2, hb]
    rcases Bool.eq_false_or_eq_true (isWb tb z b 6) with hw | hw
    · rw [hw, needS_t] at e3
      refine z_aload_n F dX7_read_18 rfl ?_
      refine z_ldcS F (F.con.2.2.2.2.2.2.2.2.2.1 (ksI 6) (ksI_lt (by decide))) dX7_read_19 ?_
      refine z_callVD F (c_word_t _ t fp T g tb z b u m 0 6 hz hT htb hbz (by omega) hw) 1 rfl (lw_V q622 q624 qs6 q125 q625) (by decide +kernel) ⟨Nat.le_of_ble_eq_true rfl, Nat.le_of_ble_eq_true rfl⟩ ⟨by omega, by omega⟩ [0, 1, 2, 3, 4, 5, 6, 7, 8, 9, 10, 11, 12, 13, 14, 15, 16, 17, 18, 19, 20, 21, 22, 23] 24 ⟨rfl, rfl, rfl, ⟨Or.inl rfl, Or.inr rfl, Or.inr rfl, Or.inl rfl, Or.inl rfl, Or.inl rfl, Or.inl rfl, Or.inl rfl, Or.inl rfl, Or.inl rfl, Or.inl rfl, Or.inl rfl, Or.inl rfl, Or.inl rfl, Or.inl rfl, Or.inl rfl, Or.inl rfl, Or.inl rfl, Or.inl rfl, Or.inl rfl, Or.inl rfl, Or.inl rfl, Or.inr rfl, Or.inr rfl, trivial⟩⟩ (fun h => nomatch h) (Nat.le_of_ble_eq_true rfl) ⟨⟨Or.inr trivial, Or.inl rfl, Or.inl rfl, Or.inr trivial, Or.inr trivial, Or.inr trivial, Or.inr trivial, Or.inr trivial, Or.inr trivial, Or.inr trivial, Or.inr trivial, Or.inr trivial, Or.inr trivial, Or.inr trivial, Or.inr trivial, Or.inr trivial, Or.inr trivial, Or.inr trivial, Or.inr trivial, Or.inr trivial, Or.inr trivial, Or.inr trivial, Or.inl rfl, Or.inl rfl, trivial⟩, rfl, rfl, rfl, Nat.le_of_ble_eq_true rfl⟩ rfl zC7 rfl rfl dX7_read_21 (fun r_21 w_21 hp => ?_) (fun _ _ h => h.elim)
      obtain ⟨rfl, rfl⟩ := hp
      refine z_weq (w' := [zH, zO _ [zr _ _, zr _ _, zr _ _, zr _ _, zr _ _, zi _, zi _, zr _ _, zr _ _], zAi 3 400 _, zH, zH, zH, zH, zH, zH, zH, zH, zH, zH, zH, zH, zH, zH, zH, zH, zH, zH, zH, zO _ [zi _, zr _ _, zi _, zi _, zi _, zi _, zi _, zi _, zn, zi _, zr _ _], zAi 0 12 _]) rfl ?_
      refine z_seq (S' := []) rfl ?_
      exact at24 (by rw [e3]) n _ _ m hn hn100 (by rw [e3]) (nuV_ok hu.1)
    · rw [hw, needS_f] at e3
      have hrd := rdS_3 (tb := tb) (z := z) (by rw [e3]; exact Nat.one_ne_zero)
      rw [e3] at hrd
      refine z_aload_n F dX7_read_18 rfl ?_
      refine z_ldcS F (F.con.2.2.2.2.2.2.2.2.2.1 (ksI 6) (ksI_lt (by decide))) dX7_read_19 ?_
      refine z_callVD F (c_word_f _ t fp T g tb z b u m 0 6 hz hT htb hbz (by omega) hw) 1 rfl (lw_V q622 q624 qs6 q125 q625) (by decide +kernel) ⟨Nat.le_of_ble_eq_true rfl, Nat.le_of_ble_eq_true rfl⟩ ⟨by omega, by omega⟩ [0, 1, 2, 3, 4, 5, 6, 7, 8, 9, 10, 11, 12, 13, 14, 15, 16, 17, 18, 19, 20, 21, 22, 23] 24 ⟨rfl, rfl, rfl, ⟨Or.inl rfl, Or.inr rfl, Or.inr rfl, Or.inl rfl, Or.inl rfl, Or.inl rfl, Or.inl rfl, Or.inl rfl, Or.inl rfl, Or.inl rfl, Or.inl rfl, Or.inl rfl, Or.inl rfl, Or.inl rfl, Or.inl rfl, Or.inl rfl, Or.inl rfl, Or.inl rfl, Or.inl rfl, Or.inl rfl, Or.inl rfl, Or.inl rfl, Or.inr rfl, Or.inr rfl, trivial⟩⟩ (fun h => nomatch h) (Nat.le_of_ble_eq_true rfl) ⟨⟨Or.inr trivial, Or.inl rfl, Or.inl rfl, Or.inr trivial, Or.inr trivial, Or.inr trivial, Or.inr trivial, Or.inr trivial, Or.inr trivial, Or.inr trivial, Or.inr trivial, Or.inr trivial, Or.inr trivial, Or.inr trivial, Or.inr trivial, Or.inr trivial, Or.inr trivial, Or.inr trivial, Or.inr trivial, Or.inr trivial, Or.inr trivial, Or.inr trivial, Or.inl rfl, Or.inl rfl, trivial⟩, rfl, rfl, rfl, Nat.le_of_ble_eq_true rfl⟩ rfl zC7 rfl rfl dX7_read_21 (fun r_21 w_21 hp => ?_) (fun E_ w_ hx => by obtain ⟨rfl, hb, rfl⟩ := hx; exact zx_out F E hno (by omega) (by omega) (⟨rfl, _, _, g, u, m, 0, hrd, Or.inl rfl⟩))
      exact hp.elim
  -- the number of knots
  have at10 : (rq1 tb z).1 = 0 → ∀ (b u m : Nat), b = (rq1 tb z).2 → TS tb z u b → Z X [some (zr 22 0), none] [] (rTA t fp T g tb z b u m 0) 0 0 10 := by
    intro h1 b u m hb hu
    have hbz : b ≤ z := by rw [hb]; exact o1.1
    have e2 : rq2 tb z = numS tb z 1 24 0 b := by unfold rq2; rw [h1, hb]
    by_cases hE : nuE tb z 1 24 b = 0
    · rw [numS_0 hE] at e2
      have h24 := (nuE_0 hE).2.2.2
      refine z_aload_n F dX7_read_10 rfl ?_
      refine z_iconst F (nI 1) dX7_read_11 rfl ?_
      refine z_bipush F (nI 24) dX7_read_12 rfl ?_
      refine z_callV F (c_number_t t fp T g tb z b u m 0 1 24 hz hT htb hbz (by omega) (by omega) hu.2 hE) 2 rfl (lw_V q706 q708 qs9 q125 q709) (by decide +kernel) ⟨Nat.le_of_ble_eq_true rfl, Nat.le_of_ble_eq_true rfl⟩ ⟨by omega, by omega⟩ [0, 1, 2, 3, 4, 5, 6, 7, 8, 9, 10, 11, 12, 13, 14, 15, 16, 17, 18, 19, 20, 21, 22, 23] 24 ⟨rfl, rfl, rfl, ⟨Or.inl rfl, Or.inr rfl, Or.inr rfl, Or.inl rfl, Or.inl rfl, Or.inl rfl, Or.inl rfl, Or.inl rfl, Or.inl rfl, Or.inl rfl, Or.inl rfl, Or.inl rfl, Or.inl rfl, Or.inl rfl, Or.inl rfl, Or.inl rfl, Or.inl rfl, Or.inl rfl, Or.inl rfl, Or.inl rfl, Or.inl rfl, Or.inl rfl, Or.inr rfl, Or.inr rfl, trivial⟩⟩ (fun h => nomatch h) (Nat.le_of_ble_eq_true rfl) ⟨⟨Or.inr trivial, Or.inl rfl, Or.inl rfl, Or.inr trivial, Or.inr trivial, Or.inr trivial, Or.inr trivial, Or.inr trivial, Or.inr trivial, Or.inr trivial, Or.inr trivial, Or.inr trivial, Or.inr trivial, Or.inr trivial, Or.inr trivial, Or.inr trivial, Or.inr trivial, Or.inr trivial, Or.inr trivial, Or.inr trivial, Or.inr trivial, Or.inr trivial, Or.inl rfl, Or.inl rfl, trivial⟩, rfl, rfl, rfl, Nat.le_of_ble_eq_true rfl⟩ rfl zC7 rfl rfl dX7_read_14 (fun r_14 w_14 hp => ?_) (fun _ _ h => h.elim)
      obtain ⟨rfl, rfl⟩ := hp
      refine z_weq (w' := [zH, zO _ [zr _ _, zr _ _, zr _ _, zr _ _, zr _ _, zi _, zi _, zr _ _, zr _ _], zAi 3 400 _, zH, zH, zH, zH, zH, zH, zH, zH, zH, zH, zH, zH, zH, zH, zH, zH, zH, zH, zH, zO _ [zi _, zr _ _, zi _, zi _, zi _, zi _, zi _, zi _, zn, zi _, zr _ _], zAi 0 12 _]) rfl ?_
      refine z_seq (S' := zi _ :: _) rfl ?_
      refine z_istore_n F dX7_read_17 (Nat.le_of_ble_eq_true rfl) ?_
      refine z_leq (L' := [_, _]) rfl ?_
      exact at18 (by rw [e2]) _ _ _ m (by unfold rqN; rw [hb]) (by omega) (by rw [e2]) (nuV_ok hu.1)
    · rw [numS_f hE] at e2
      have hrd := rdS_2 (tb := tb) (z := z) (by rw [e2]; exact hE)
      rw [e2] at hrd
      refine z_aload_n F dX7_read_10 rfl ?_
      refine z_iconst F (nI 1) dX7_read_11 rfl ?_
      refine z_bipush F (nI 24) dX7_read_12 rfl ?_
      refine z_callV F (c_number_f t fp T g tb z b u m 0 1 24 hz hT htb hbz (by omega) (by omega) hu.1 hu.2 hE) 2 rfl (lw_V q706 q708 qs9 q125 q709) (by decide +kernel) ⟨Nat.le_of_ble_eq_true rfl, Nat.le_of_ble_eq_true rfl⟩ ⟨by omega, by omega⟩ [0, 1, 2, 3, 4, 5, 6, 7, 8, 9, 10, 11, 12, 13, 14, 15, 16, 17, 18, 19, 20, 21, 22, 23] 24 ⟨rfl, rfl, rfl, ⟨Or.inl rfl, Or.inr rfl, Or.inr rfl, Or.inl rfl, Or.inl rfl, Or.inl rfl, Or.inl rfl, Or.inl rfl, Or.inl rfl, Or.inl rfl, Or.inl rfl, Or.inl rfl, Or.inl rfl, Or.inl rfl, Or.inl rfl, Or.inl rfl, Or.inl rfl, Or.inl rfl, Or.inl rfl, Or.inl rfl, Or.inl rfl, Or.inl rfl, Or.inr rfl, Or.inr rfl, trivial⟩⟩ (fun h => nomatch h) (Nat.le_of_ble_eq_true rfl) ⟨⟨Or.inr trivial, Or.inl rfl, Or.inl rfl, Or.inr trivial, Or.inr trivial, Or.inr trivial, Or.inr trivial, Or.inr trivial, Or.inr trivial, Or.inr trivial, Or.inr trivial, Or.inr trivial, Or.inr trivial, Or.inr trivial, Or.inr trivial, Or.inr trivial, Or.inr trivial, Or.inr trivial, Or.inr trivial, Or.inr trivial, Or.inr trivial, Or.inr trivial, Or.inl rfl, Or.inl rfl, trivial⟩, rfl, rfl, rfl, Nat.le_of_ble_eq_true rfl⟩ rfl zC7 rfl rfl dX7_read_14 (fun r_14 w_14 hp => ?_) (fun E_ w_ hx => by obtain ⟨rfl, hb, rfl⟩ := hx; exact zx_out F E hno (by omega) (by omega) (⟨rfl, _, _, g, u, m, 0, hrd, Or.inl rfl⟩))
      exact hp.elim
  -- the first word
  have at4 : ∀ (b u m : Nat), b = sk tb z 0 → TS tb z u b → Z X [some (zr 22 0), none] [] (rTA t fp T g tb z b u m 0) 0 0 4 := by
    intro b u m hb hu
    have hbz : b ≤ z := by rw [hb]; exact hb0
    have e1 : rq1 tb z = needS tb z 0 b (isWb tb z b 5) := by unfold rq1; rw [hb]
    rcases Bool.eq_false_or_eq_true (isWb tb z b 5) with hw | hw
    · rw [hw, needS_t] at e1
      refine z_aload_n F dX7_read_4 rfl ?_
      refine z_ldcS F (F.con.2.2.2.2.2.2.2.2.2.1 (ksI 5) (ksI_lt (by decide))) dX7_read_5 ?_
      refine z_callVD F (c_word_t _ t fp T g tb z b u m 0 5 hz hT htb hbz (by omega) hw) 1 rfl (lw_V q622 q624 qs6 q125 q625) (by decide +kernel) ⟨Nat.le_of_ble_eq_true rfl, Nat.le_of_ble_eq_true rfl⟩ ⟨by omega, by omega⟩ [0, 1, 2, 3, 4, 5, 6, 7, 8, 9, 10, 11, 12, 13, 14, 15, 16, 17, 18, 19, 20, 21, 22, 23] 24 ⟨rfl, rfl, rfl, ⟨Or.inl rfl, Or.inr rfl, Or.inr rfl, Or.inl rfl, Or.inl rfl, Or.inl rfl, Or.inl rfl, Or.inl rfl, Or.inl rfl, Or.inl rfl, Or.inl rfl, Or.inl rfl, Or.inl rfl, Or.inl rfl, Or.inl rfl, Or.inl rfl, Or.inl rfl, Or.inl rfl, Or.inl rfl, Or.inl rfl, Or.inl rfl, Or.inl rfl, Or.inr rfl, Or.inr rfl, trivial⟩⟩ (fun h => nomatch h) (Nat.le_of_ble_eq_true rfl) ⟨⟨Or.inr trivial, Or.inl rfl, Or.inl rfl, Or.inr trivial, Or.inr trivial, Or.inr trivial, Or.inr trivial, Or.inr trivial, Or.inr trivial, Or.inr trivial, Or.inr trivial, Or.inr trivial, Or.inr trivial, Or.inr trivial, Or.inr trivial, Or.inr trivial, Or.inr trivial, Or.inr trivial, Or.inr trivial, Or.inr trivial, Or.inr trivial, Or.inr trivial, Or.inl rfl, Or.inl rfl, trivial⟩, rfl, rfl, rfl, Nat.le_of_ble_eq_true rfl⟩ rfl zC7 rfl rfl dX7_read_7 (fun r_7 w_7 hp => ?_) (fun _ _ h => h.elim)
      obtain ⟨rfl, rfl⟩ := hp
      refine z_weq (w' := [zH, zO _ [zr _ _, zr _ _, zr _ _, zr _ _, zr _ _, zi _, zi _, zr _ _, zr _ _], zAi 3 400 _, zH, zH, zH, zH, zH, zH, zH, zH, zH, zH, zH, zH, zH, zH, zH, zH, zH, zH, zH, zO _ [zi _, zr _ _, zi _, zi _, zi _, zi _, zi _, zi _, zn, zi _, zr _ _], zAi 0 12 _]) rfl ?_
      refine z_seq (S' := []) rfl ?_
      exact at10 (by rw [e1]) _ _ m (by rw [e1]) (nuV_ok hu.1)
    · rw [hw, needS_f] at e1
      have hrd := rdS_1 (tb := tb) (z := z) (by rw [e1]; exact Nat.one_ne_zero)
      rw [e1] at hrd
      refine z_aload_n F dX7_read_4 rfl ?_
      refine z_ldcS F (F.con.2.2.2.2.2.2.2.2.2.1 (ksI 5) (ksI_lt (by decide))) dX7_read_5 ?_
      refine z_callVD F (c_word_f _ t fp T g tb z b u m 0 5 hz hT htb hbz (by omega) hw) 1 rfl (lw_V q622 q624 qs6 q125 q625) (by decide +kernel) ⟨Nat.le_of_ble_eq_true rfl, Nat.le_of_ble_eq_true rfl⟩ ⟨by omega, by omega⟩ [0, 1, 2, 3, 4, 5, 6, 7, 8, 9, 10, 11, 12, 13, 14, 15, 16, 17, 18, 19, 20, 21, 22, 23] 24 ⟨rfl, rfl, rfl, ⟨Or.inl rfl, Or.inr rfl, Or.inr rfl, Or.inl rfl, Or.inl rfl, Or.inl rfl, Or.inl rfl, Or.inl rfl, Or.inl rfl, Or.inl rfl, Or.inl rfl, Or.inl rfl, Or.inl rfl, Or.inl rfl, Or.inl rfl, Or.inl rfl, Or.inl rfl, Or.inl rfl, Or.inl rfl, Or.inl rfl, Or.inl rfl, Or.inl rfl, Or.inr rfl, Or.inr rfl, trivial⟩⟩ (fun h => nomatch h) (Nat.le_of_ble_eq_true rfl) ⟨⟨Or.inr trivial, Or.inl rfl, Or.inl rfl, Or.inr trivial, Or.inr trivial, Or.inr trivial, Or.inr trivial, Or.inr trivial, Or.inr trivial, Or.inr trivial, Or.inr trivial, Or.inr trivial, Or.inr trivial, Or.inr trivial, Or.inr trivial, Or.inr trivial, Or.inr trivial, Or.inr trivial, Or.inr trivial, Or.inr trivial, Or.inr trivial, Or.inr trivial, Or.inl rfl, Or.inl rfl, trivial⟩, rfl, rfl, rfl, Nat.le_of_ble_eq_true rfl⟩ rfl zC7 rfl rfl dX7_read_7 (fun r_7 w_7 hp => ?_) (fun E_ w_ hx => by obtain ⟨rfl, hb, rfl⟩ := hx; exact zx_out F E hno (by omega) (by omega) (⟨rfl, _, _, g, u, m, 0, hrd, Or.inl rfl⟩))
      exact hp.elim
  refine z_aload_n F dX7_read_0 rfl ?_
  refine z_callV F (c_nextA t fp T g z 0 0 0 0 0 0 0 tb hz hT htb (by omega)) 0 rfl (lw_V q601 q603 qs2 q125 q604) (by decide +kernel) ⟨Nat.le_of_ble_eq_true rfl, Nat.le_of_ble_eq_true rfl⟩ ⟨by omega, by omega⟩ [0, 1, 2, 3, 4, 5, 6, 7, 8, 9, 10, 11, 12, 13, 14, 15, 16, 17, 18, 19, 20, 21, 22, 23] 24 ⟨rfl, rfl, rfl, ⟨Or.inl rfl, Or.inr rfl, Or.inr rfl, Or.inl rfl, Or.inl rfl, Or.inl rfl, Or.inl rfl, Or.inl rfl, Or.inl rfl, Or.inl rfl, Or.inl rfl, Or.inl rfl, Or.inl rfl, Or.inl rfl, Or.inl rfl, Or.inl rfl, Or.inl rfl, Or.inl rfl, Or.inl rfl, Or.inl rfl, Or.inl rfl, Or.inl rfl, Or.inr rfl, Or.inr rfl, trivial⟩⟩ (fun h => nomatch h) (Nat.le_of_ble_eq_true rfl) ⟨⟨Or.inr trivial, Or.inl rfl, Or.inl rfl, Or.inr trivial, Or.inr trivial, Or.inr trivial, Or.inr trivial, Or.inr trivial, Or.inr trivial, Or.inr trivial, Or.inr trivial, Or.inr trivial, Or.inr trivial, Or.inr trivial, Or.inr trivial, Or.inr trivial, Or.inr trivial, Or.inr trivial, Or.inr trivial, Or.inr trivial, Or.inr trivial, Or.inr trivial, Or.inl rfl, Or.inl rfl, trivial⟩, rfl, rfl, rfl, Nat.le_of_ble_eq_true rfl⟩ rfl zC7 rfl rfl dX7_read_1 (fun r_1 w_1 hp => ?_) (fun _ _ h => h.elim)
  obtain ⟨rfl, rfl⟩ := hp
  refine z_weq (w' := [zH, zO _ [zr _ _, zr _ _, zr _ _, zr _ _, zr _ _, zi _, zi _, zr _ _, zr _ _], zAi 3 400 _, zH, zH, zH, zH, zH, zH, zH, zH, zH, zH, zH, zH, zH, zH, zH, zH, zH, zH, zH, zO _ [zi _, zr _ _, zi _, zi _, zi _, zi _, zi _, zi _, zn, zi _, zr _ _], zAi 0 12 _]) rfl ?_
  refine z_seq (S' := []) rfl ?_
  exact at4 _ _ 0 rfl (nuV_ok (by omega))
end CA5
