/-! read: the reader's steps (gena3.py) -/
section CA3
section RA3
variable {X : zX} {cc : ByteArray} {own : String} {ret : Option FieldType} {nL d mc ms nw : Nat} {np : Bool} {L : List (Option zV)} {S : List zV} {w : List zE} {k n pc : Nat}
variable {post : Option zV → List zE → Prop} {xpost : String → List zE → Prop} {w0 : List zE} {y : MethodName} {cc' : ByteArray} {nL' d' mc' ms' idx : Nat} {ret' : Option FieldType} {as st0 : List zV}
/-- z_callV, the receiver's class known in the caller's world -/
theorem z_callVH (F : zFix X cc own ret nL d mc ms nw np) {p0 ci Nf : Nat} {fs : List zV} {T : u_T} {ty0 : Nat → FieldType} (C : zCtr y cc' nL' ret' d' mc' ms' (zr p0 0 :: as) w0 post xpost) (na : Nat) (hna : as.length = na) (hG : GoodIn lw_all (wsV own idx y.cls y (ws_ y cc' nL' ret'))) (hy : y.cls = y.cls ∧ y.cls ≠ "java/lang/invoke/MethodHandle" ∧ y.cls ≠ "java/lang/invoke/VarHandle" ∧ (parseMethodDescriptor y.desc).map (fun d => d.parameters.length) = some na)
    (hrm : d' + 1 ≤ d ∧ nL' ≤ 41) (hks : k + mc' ≤ mc ∧ n + ms' ≤ ms) (σ : List Nat) (N : Nat) (hz : zcall σ N w w0) (hpl : zisP w0 = true → np = true) (hnw : nw ≤ N) (hkp : zkept σ N w0 w L S) (hnL : L.length = nL) (hC : zCl ci y.cls T Nf ty0) (hrc : zat w (zsg σ N p0) 0 = some (.inl (ci, fs))) (hst : st0 = (as.map (zrn (zsg σ N))).reverse ++ zr (zsg σ N p0) 0 :: S) (hd : decode cc pc = .ok (.invokevirtual idx, 3))
    (kk : ∀ r w1, post r w1 → Z X L ((r.map (zrn (zsg σ N))).toList ++ S) (zbk σ N w0 w1 0 w) (k + mc') (n + ms') (pc + 3))
    (kx : ∀ E w1, xpost E w1 → ZX X L (zbk σ N w0 w1 0 w) (k + mc') (n + ms') pc E N) : Z X L st0 w k n pc := fun ad H locs ls h0 h1 h2 h3 h4 => by
  refine z_go F hz hpl hnw hkp h0 h1 h2 h3 h4 (a := (Value.ref (zadc σ N ad p0 0) :: as.map (zcv (zadc σ N ad))).toArray) ?_ kk kx
  exact vx_runV (As := as.map (zcv (zadc σ N ad))) ⟨F.1, F.2.1, F.2.2.2.2.2.2.2.2.1, F.2.2.1, F.2.2.2.1⟩ (C X.1.2.1 X.2.2.1 X.2.2.2.1 (zadc σ N ad) H.size) (cwV na F.2.2.2.1 hG rfl rfl rfl hy ⟨by rw [F.2.2.2.2.2.2.2.2.2.1]; exact hrm.1, by rw [F.2.2.2.2.2.2.2.2.2.1]; show 8 + (nL' + 11) + 60 * d' ≤ 60 * d; omega⟩)
    ⟨zPc_blind, va_recv F.2.2.2.2.1 (zsing (h1 (zsg σ N p0) 0 _ hrc)) (q0 := 0) hC.1 rfl, fun U hU hW => z_pre F hz h1 h2 h3 (av := zr p0 0 :: as) U hU hW⟩ rfl (by simpa using hna) (h4.1.trans hnL) (by subst hst; show List.map _ _ = _; rw [List.map_append, zstk]; rfl) (lv_room (by rw [zsum]; exact hkp.2.2.2.2)) hd (by rw [F.2.2.2.2.2.2.2.2.2.1]; exact hks)
end RA3
theorem c_want_t (k : Nat) : zCtr yX7_want cX7_want 3 none 0 0 0 [zr 1 0, zi (bI true), zi (nI k)] [zH, zH] (fun r w => r = none ∧ w = [zH, zH]) zNx := by
  refine z_start (by decide) [some (zr 1 0), some (zi (bI true)), some (zi (nI k))] rfl (fun _ => Nat.le_of_ble_eq_true rfl) (fun _ => rfl) (fun X F E hno hin => ?_)
  refine z_iload_n F dX7_want_0 rfl ?_
  refine z_if_neB F (tgt := 13) dX7_want_1 (by decide) (fun c_1 => ?_) (fun c_1 => ?_)
  · exact z_vret F E rfl dX7_want_13 (by omega) (by omega) (⟨rfl, rfl⟩)
  · cases c_1
theorem c_want_f (k : Nat) : zCtr yX7_want cX7_want 3 none 4 1 7 [zr 1 0, zi (bI false), zi (nI k)] [zH, zH] (fun r w => False) (fun E w => E = eWrg ∧ True ∧ w = [zH, zH, eWr k]) := by
  refine z_start (by decide) [some (zr 1 0), some (zi (bI false)), some (zi (nI k))] rfl (fun _ => Nat.le_of_ble_eq_true rfl) (fun _ => rfl) (fun X F E hno hin => ?_)
  refine z_iload_n F dX7_want_0 rfl ?_
  refine z_if_neB F (tgt := 13) dX7_want_1 (by decide) (fun c_1 => ?_) (fun c_1 => ?_)
  · cases c_1
  · refine z_new F 2 [zn, zn, zn, zn, zn, zi 0, zi 0] zC8 q682 q683 q131 (fun _ j hj => by match j, hj with | 0, _ => rfl | 1, _ => rfl | 2, _ => rfl | 3, _ => rfl | 4, _ => rfl | 5, _ => rfl | 6, _ => rfl) rfl (Nat.le_of_ble_eq_true rfl) (Nat.le_of_ble_eq_true rfl) ⟨trivial, trivial, trivial⟩ rfl rfl ⟨by omega, by omega⟩ dX7_want_4 ?_
    refine z_weq (w' := [_, _, _]) rfl ?_
    refine z_dup F dX7_want_7 rfl ?_
    refine z_iload_n F dX7_want_8 rfl ?_
    refine z_callI F (c_WrongInit (nI k)) 1 rfl (lw_meth q693) q131 q691 q692 rfl (by decide +kernel) ⟨Nat.le_of_ble_eq_true rfl, Nat.le_of_ble_eq_true rfl⟩ ⟨by omega, by omega⟩ [0, 2] 3 ⟨rfl, rfl, rfl, ⟨Or.inl rfl, Or.inr rfl, trivial⟩⟩ (fun h => nomatch h) (Nat.le_of_ble_eq_true rfl) ⟨⟨Or.inr trivial, Or.inr trivial, Or.inl rfl, trivial⟩, rfl, rfl, rfl, Nat.le_of_ble_eq_true rfl⟩ rfl rfl dX7_want_9 (fun r_9 w_9 hp => ?_) (fun _ _ h => h.elim)
    obtain ⟨rfl, rfl⟩ := hp
    refine z_weq (w' := [zH, zH, zO _ [zn, zn, zn, zn, zn, zi _, zi _]]) rfl ?_
    refine z_seq (S' := [_]) rfl ?_
    refine z_athrow F zC8 rfl dX7_want_12 ?_
    exact zx_out F E hno (by omega) (by omega) (⟨rfl, trivial, rfl⟩)
abbrev rTA (t : Nat) (fp : Int32) (T : Nat → Int32) (g : Nat → Int32) (tb : Nat → Nat) (z b u m c : Nat) : List zE := rWA t fp T g z (en tb z b) (kd tb z b) b (en tb z b) u m c
abbrev rTB (t : Nat) (fp : Int32) (T : Nat → Int32) (n d : Nat) (f g : Nat → Int32) (tb : Nat → Nat) (z b u m c : Nat) : List zE := rWB t fp T n d f g z (en tb z b) (kd tb z b) b (en tb z b) u m c

theorem c_word_t (Dg : va_G) (t : Nat) (fp : Int32) (T : Nat → Int32) (g : Nat → Int32) (tb : Nat → Nat) (z b u m c i : Nat) (hz : z ≤ 400) (hT : tBy T tb z) (htb : ∀ i, tb i < 256) (hb : b ≤ z) (hi : i < 7) (h : isWb tb z b i = true) : zCtrD Dg yX7_word cX7_word 2 none 5 0 0 [zr 22 0, zq (Dg.2 1002 (ksI i))] (rTA t fp T g tb z b u m c) (fun r w => r = none ∧ w = (rTA t fp T g tb z (nb tb z b) (nuV tb z (nb tb z b) u) m c)) zNx := by
  refine z_startD (by decide) [some (zr 22 0), some (zq (Dg.2 1002 (ksI i)))] rfl (fun _ => Nat.le_of_ble_eq_true rfl) (fun _ => rfl) (fun X hD F E hno hin => ?_)
  subst hD
  refine z_aload_n F dX7_word_0 rfl ?_
  refine z_aload_n F dX7_word_1 rfl ?_
  refine z_aloadQ_n F dX7_word_2 rfl ?_
  refine z_callVD F (c_isA _ t fp T g z b u m c i tb hz hT hb hi) 1 rfl (lw_V q626 q628 qs7 q125 q629) (by decide +kernel) ⟨Nat.le_of_ble_eq_true rfl, Nat.le_of_ble_eq_true rfl⟩ ⟨by omega, by omega⟩ [0, 1, 2, 3, 4, 5, 6, 7, 8, 9, 10, 11, 12, 13, 14, 15, 16, 17, 18, 19, 20, 21, 22, 23] 24 ⟨rfl, rfl, rfl, ⟨Or.inl rfl, Or.inr rfl, Or.inr rfl, Or.inl rfl, Or.inl rfl, Or.inl rfl, Or.inl rfl, Or.inl rfl, Or.inl rfl, Or.inl rfl, Or.inl rfl, Or.inl rfl, Or.inl rfl, Or.inl rfl, Or.inl rfl, Or.inl rfl, Or.inl rfl, Or.inl rfl, Or.inl rfl, Or.inl rfl, Or.inl rfl, Or.inl rfl, Or.inr rfl, Or.inr rfl, trivial⟩⟩ (fun h => nomatch h) (Nat.le_of_ble_eq_true rfl) ⟨⟨Or.inr trivial, Or.inl rfl, Or.inl rfl, Or.inr trivial, Or.inr trivial, Or.inr trivial, Or.inr trivial, Or.inr trivial, Or.inr trivial, Or.inr trivial, Or.inr trivial, Or.inr trivial, Or.inr trivial, Or.inr trivial, Or.inr trivial, Or.inr trivial, Or.inr trivial, Or.inr trivial, Or.inr trivial, Or.inr trivial, Or.inr trivial, Or.inr trivial, Or.inl rfl, Or.inl rfl, trivial⟩, rfl, rfl, rfl, Nat.le_of_ble_eq_true rfl⟩ rfl zC7 rfl rfl dX7_word_3 (fun r_3 w_3 hp => ?_) (fun _ _ h => h.elim)
  obtain ⟨rfl, rfl⟩ := hp
  rw [h]
  refine z_weq (w' := [zH, zO _ [zr _ _, zr _ _, zr _ _, zr _ _, zr _ _, zi _, zi _, zr _ _, zr _ _], zAi 3 400 _, zH, zH, zH, zH, zH, zH, zH, zH, zH, zH, zH, zH, zH, zH, zH, zH, zH, zH, zH, zO _ [zi _, zr _ _, zi _, zi _, zi _, zi _, zi _, zi _, zn, zi _, zr _ _], zAi 0 12 _]) rfl ?_
  refine z_seq (S' := zi _ :: _) rfl ?_
  refine z_iconst F (nI 1) dX7_word_6 rfl ?_
  refine z_callVH F (c_want_t 1) 2 rfl (lw_V q678 q680 qs8 q125 q681) (by decide +kernel) ⟨Nat.le_of_ble_eq_true rfl, Nat.le_of_ble_eq_true rfl⟩ ⟨by omega, by omega⟩ [0, 22] 24 ⟨rfl, rfl, rfl, ⟨Or.inl rfl, Or.inl rfl, trivial⟩⟩ (fun h => nomatch h) (Nat.le_of_ble_eq_true rfl) ⟨⟨Or.inr trivial, Or.inr rfl, Or.inr trivial, Or.inr trivial, Or.inr trivial, Or.inr trivial, Or.inr trivial, Or.inr trivial, Or.inr trivial, Or.inr trivial, Or.inr trivial, Or.inr trivial, Or.inr trivial, Or.inr trivial, Or.inr trivial, Or.inr trivial, Or.inr trivial, Or.inr trivial, Or.inr trivial, Or.inr trivial, Or.inr trivial, Or.inr trivial, Or.inr rfl, Or.inr trivial, trivial⟩, rfl, rfl, rfl, Nat.le_of_ble_eq_true rfl⟩ rfl zC7 rfl rfl dX7_word_7 (fun r_7 w_7 hp => ?_) (fun _ _ h => h.elim)
  obtain ⟨rfl, rfl⟩ := hp
  refine z_weq (w' := [zH, zO _ [zr _ _, zr _ _, zr _ _, zr _ _, zr _ _, zi _, zi _, zr _ _, zr _ _], zAi 3 400 _, zH, zH, zH, zH, zH, zH, zH, zH, zH, zH, zH, zH, zH, zH, zH, zH, zH, zH, zH, zO _ [zi _, zr _ _, zi _, zi _, zi _, zi _, zi _, zi _, zn, zi _, zr _ _], zAi 0 12 _]) rfl ?_
  refine z_seq (S' := []) rfl ?_
  refine z_aload_n F dX7_word_10 rfl ?_
  refine z_callV F (c_nextA t fp T g z (en tb z b) (kd tb z b) b (en tb z b) u m c tb hz hT htb ((en_ge tb z b).2 hb)) 0 rfl (lw_V q601 q603 qs2 q125 q604) (by decide +kernel) ⟨Nat.le_of_ble_eq_true rfl, Nat.le_of_ble_eq_true rfl⟩ ⟨by omega, by omega⟩ [0, 1, 2, 3, 4, 5, 6, 7, 8, 9, 10, 11, 12, 13, 14, 15, 16, 17, 18, 19, 20, 21, 22, 23] 24 ⟨rfl, rfl, rfl, ⟨Or.inl rfl, Or.inr rfl, Or.inr rfl, Or.inl rfl, Or.inl rfl, Or.inl rfl, Or.inl rfl, Or.inl rfl, Or.inl rfl, Or.inl rfl, Or.inl rfl, Or.inl rfl, Or.inl rfl, Or.inl rfl, Or.inl rfl, Or.inl rfl, Or.inl rfl, Or.inl rfl, Or.inl rfl, Or.inl rfl, Or.inl rfl, Or.inl rfl, Or.inr rfl, Or.inr rfl, trivial⟩⟩ (fun h => nomatch h) (Nat.le_of_ble_eq_true rfl) ⟨⟨Or.inr trivial, Or.inl rfl, Or.inl rfl, Or.inr trivial, Or.inr trivial, Or.inr trivial, Or.inr trivial, Or.inr trivial, Or.inr trivial, Or.inr trivial, Or.inr trivial, Or.inr trivial, Or.inr trivial, Or.inr trivial, Or.inr trivial, Or.inr trivial, Or.inr trivial, Or.inr trivial, Or.inr trivial, Or.inr trivial, Or.inr trivial, Or.inr trivial, Or.inl rfl, Or.inl rfl, trivial⟩, rfl, rfl, rfl, Nat.le_of_ble_eq_true rfl⟩ rfl zC7 rfl rfl dX7_word_11 (fun r_11 w_11 hp => ?_) (fun _ _ h => h.elim)
  obtain ⟨rfl, rfl⟩ := hp
  refine z_weq (w' := [zH, zO _ [zr _ _, zr _ _, zr _ _, zr _ _, zr _ _, zi _, zi _, zr _ _, zr _ _], zAi 3 400 _, zH, zH, zH, zH, zH, zH, zH, zH, zH, zH, zH, zH, zH, zH, zH, zH, zH, zH, zH, zO _ [zi _, zr _ _, zi _, zi _, zi _, zi _, zi _, zi _, zn, zi _, zr _ _], zAi 0 12 _]) rfl ?_
  refine z_seq (S' := []) rfl ?_
  exact z_vret F E rfl dX7_word_14 (by omega) (by omega) (⟨rfl, rfl⟩)
theorem c_word_f (Dg : va_G) (t : Nat) (fp : Int32) (T : Nat → Int32) (g : Nat → Int32) (tb : Nat → Nat) (z b u m c i : Nat) (hz : z ≤ 400) (hT : tBy T tb z) (htb : ∀ i, tb i < 256) (hb : b ≤ z) (hi : i < 7) (h : isWb tb z b i = false) : zCtrD Dg yX7_word cX7_word 2 none 5 1 7 [zr 22 0, zq (Dg.2 1002 (ksI i))] (rTA t fp T g tb z b u m c) (fun r w => False) (fun E w => E = eWrg ∧ True ∧ w = (rTA t fp T g tb z b u m c) ++ [eWr (1)]) := by
  refine z_startD (by decide) [some (zr 22 0), some (zq (Dg.2 1002 (ksI i)))] rfl (fun _ => Nat.le_of_ble_eq_true rfl) (fun _ => rfl) (fun X hD F E hno hin => ?_)
  subst hD
  refine z_aload_n F dX7_word_0 rfl ?_
  refine z_aload_n F dX7_word_1 rfl ?_
  refine z_aloadQ_n F dX7_word_2 rfl ?_
  refine z_callVD F (c_isA _ t fp T g z b u m c i tb hz hT hb hi) 1 rfl (lw_V q626 q628 qs7 q125 q629) (by decide +kernel) ⟨Nat.le_of_ble_eq_true rfl, Nat.le_of_ble_eq_true rfl⟩ ⟨by omega, by omega⟩ [0, 1, 2, 3, 4, 5, 6, 7, 8, 9, 10, 11, 12, 13, 14, 15, 16, 17, 18, 19, 20, 21, 22, 23] 24 ⟨rfl, rfl, rfl, ⟨Or.inl rfl, Or.inr rfl, Or.inr rfl, Or.inl rfl, Or.inl rfl, Or.inl rfl, Or.inl rfl, Or.inl rfl, Or.inl rfl, Or.inl rfl, Or.inl rfl, Or.inl rfl, Or.inl rfl, Or.inl rfl, Or.inl rfl, Or.inl rfl, Or.inl rfl, Or.inl rfl, Or.inl rfl, Or.inl rfl, Or.inl rfl, Or.inl rfl, Or.inr rfl, Or.inr rfl, trivial⟩⟩ (fun h => nomatch h) (Nat.le_of_ble_eq_true rfl) ⟨⟨Or.inr trivial, Or.inl rfl, Or.inl rfl, Or.inr trivial, Or.inr trivial, Or.inr trivial, Or.inr trivial, Or.inr trivial, Or.inr trivial, Or.inr trivial, Or.inr trivial, Or.inr trivial, Or.inr trivial, Or.inr trivial, Or.inr trivial, Or.inr trivial, Or.inr trivial, Or.inr trivial, Or.inr trivial, Or.inr trivial, Or.inr trivial, Or.inr trivial, Or.inl rfl, Or.inl rfl, trivial⟩, rfl, rfl, rfl, Nat.le_of_ble_eq_true rfl⟩ rfl zC7 rfl rfl dX7_word_3 (fun r_3 w_3 hp => ?_) (fun _ _ h => h.elim)
  obtain ⟨rfl, rfl⟩ := hp
  rw [h]
  refine z_weq (w' := [zH, zO _ [zr _ _, zr _ _, zr _ _, zr _ _, zr _ _, zi _, zi _, zr _ _, zr _ _], zAi 3 400 _, zH, zH, zH, zH, zH, zH, zH, zH, zH, zH, zH, zH, zH, zH, zH, zH, zH, zH, zH, zO _ [zi _, zr _ _, zi _, zi _, zi _, zi _, zi _, zi _, zn, zi _, zr _ _], zAi 0 12 _]) rfl ?_
  refine z_seq (S' := zi _ :: _) rfl ?_
  refine z_iconst F (nI 1) dX7_word_6 rfl ?_
  refine z_callVH F (c_want_f 1) 2 rfl (lw_V q678 q680 qs8 q125 q681) (by decide +kernel) ⟨Nat.le_of_ble_eq_true rfl, Nat.le_of_ble_eq_true rfl⟩ ⟨by omega, by omega⟩ [0, 22] 24 ⟨rfl, rfl, rfl, ⟨Or.inl rfl, Or.inl rfl, trivial⟩⟩ (fun h => nomatch h) (Nat.le_of_ble_eq_true rfl) ⟨⟨Or.inr trivial, Or.inr rfl, Or.inr trivial, Or.inr trivial, Or.inr trivial, Or.inr trivial, Or.inr trivial, Or.inr trivial, Or.inr trivial, Or.inr trivial, Or.inr trivial, Or.inr trivial, Or.inr trivial, Or.inr trivial, Or.inr trivial, Or.inr trivial, Or.inr trivial, Or.inr trivial, Or.inr trivial, Or.inr trivial, Or.inr trivial, Or.inr trivial, Or.inr rfl, Or.inr trivial, trivial⟩, rfl, rfl, rfl, Nat.le_of_ble_eq_true rfl⟩ rfl zC7 rfl rfl dX7_word_7 (fun r_7 w_7 hp => ?_) (fun E_ w_ hx => by obtain ⟨rfl, hb, rfl⟩ := hx; exact zx_out F E hno (by omega) (by omega) (⟨rfl, trivial, rfl⟩))
  exact hp.elim
theorem c_number_t (t : Nat) (fp : Int32) (T : Nat → Int32) (g : Nat → Int32) (tb : Nat → Nat) (z b u m c lo hi : Nat) (hz : z ≤ 400) (hT : tBy T tb z) (htb : ∀ i, tb i < 256) (hb : b ≤ z) (hlo : lo < 100) (hhi : hi < 100) (hu : kd tb z b = 2 → u = nvd tb b (en tb z b - b)) (h : nuE tb z lo hi b = 0) : zCtr yX7_number cX7_number 4 (some .int) 5 0 0 [zr 22 0, zi (nI lo), zi (nI hi)] (rTA t fp T g tb z b u m c) (fun r w => r = some (zi (nI (rv tb z b))) ∧ w = (rTA t fp T g tb z (nb tb z b) (nuV tb z (nb tb z b) u) m c)) zNx := by
  refine z_start (by decide) [some (zr 22 0), some (zi (nI lo)), some (zi (nI hi)), none] rfl (fun _ => Nat.le_of_ble_eq_true rfl) (fun _ => rfl) (fun X F E hno hin => ?_)
  obtain ⟨h1, h2, h3, h4⟩ := nuE_0 h
  have e := (hu h1).trans (nvd_rvd _ h2 (tk_D h1).2.2.2)
  have e : u = rv tb z b := e
  have h9 : rv tb z b < 1000 := rvd_999 (tk_D h1).2.2.2
  have he := en_ge tb z b
  have he2 := he.2 hb
  refine z_aload_n F dX7_number_0 rfl ?_
  refine z_aload_n F dX7_number_1 rfl ?_
  refine z_get F zC7 (f := 3) rfl (Nat.le_of_ble_eq_true rfl) q565 rfl dX7_number_2 ?_
  refine z_iconst F (nI 2) dX7_number_5 rfl ?_
  refine z_icmp_neN F (by omega) (by omega) (tgt := 13) dX7_number_6 (by decide) (fun c_6 => ?_) (fun c_6 => ?_)
  · exact absurd c_6 (by omega)
  · refine z_iconstB F true dX7_number_9 rfl ?_
    refine z_goto F (tgt := 14) dX7_number_10 (by decide) ?_
    refine z_iconst F (nI 1) dX7_number_14 rfl ?_
    refine z_callVH F (c_want_t 1) 2 rfl (lw_V q678 q680 qs8 q125 q681) (by decide +kernel) ⟨Nat.le_of_ble_eq_true rfl, Nat.le_of_ble_eq_true rfl⟩ ⟨by omega, by omega⟩ [0, 22] 24 ⟨rfl, rfl, rfl, ⟨Or.inl rfl, Or.inl rfl, trivial⟩⟩ (fun h => nomatch h) (Nat.le_of_ble_eq_true rfl) ⟨⟨Or.inr trivial, Or.inr rfl, Or.inr trivial, Or.inr trivial, Or.inr trivial, Or.inr trivial, Or.inr trivial, Or.inr trivial, Or.inr trivial, Or.inr trivial, Or.inr trivial, Or.inr trivial, Or.inr trivial, Or.inr trivial, Or.inr trivial, Or.inr trivial, Or.inr trivial, Or.inr trivial, Or.inr trivial, Or.inr trivial, Or.inr trivial, Or.inr trivial, Or.inr rfl, Or.inr trivial, trivial⟩, rfl, rfl, rfl, Nat.le_of_ble_eq_true rfl⟩ rfl zC7 rfl rfl dX7_number_15 (fun r_15 w_15 hp => ?_) (fun _ _ h => h.elim)
    obtain ⟨rfl, rfl⟩ := hp
    refine z_weq (w' := [zH, zO _ [zr _ _, zr _ _, zr _ _, zr _ _, zr _ _, zi _, zi _, zr _ _, zr _ _], zAi 3 400 _, zH, zH, zH, zH, zH, zH, zH, zH, zH, zH, zH, zH, zH, zH, zH, zH, zH, zH, zH, zO _ [zi _, zr _ _, zi _, zi _, zi _, zi _, zi _, zi _, zn, zi _, zr _ _], zAi 0 12 _]) rfl ?_
    refine z_seq (S' := []) rfl ?_
    refine z_aload_n F dX7_number_18 rfl ?_
    refine z_aload_n F dX7_number_19 rfl ?_
    refine z_get F zC7 (f := 5) rfl (Nat.le_of_ble_eq_true rfl) q568 rfl dX7_number_20 ?_
    refine z_aload_n F dX7_number_23 rfl ?_
    refine z_get F zC7 (f := 4) rfl (Nat.le_of_ble_eq_true rfl) q566 rfl dX7_number_24 ?_
    refine z_isubN F (by omega) dX7_number_27 ?_
    refine z_iconst F (nI 3) dX7_number_28 rfl ?_
    refine z_icmp_gtN F (by omega) (by omega) (tgt := 52) dX7_number_29 (by decide) (fun c_29 => ?_) (fun c_29 => ?_)
    · exact absurd c_29 (by omega)
    · refine z_aload_n F dX7_number_32 rfl ?_
      refine z_get F zC7 (f := 6) rfl (Nat.le_of_ble_eq_true rfl) q569 rfl dX7_number_33 ?_
      refine z_iload_n F dX7_number_36 rfl ?_
      refine z_icmp_ltN F (by omega) (by omega) (tgt := 52) dX7_number_37 (by decide) (fun c_37 => ?_) (fun c_37 => ?_)
      · exact absurd c_37 (by omega)
      · refine z_aload_n F dX7_number_40 rfl ?_
        refine z_get F zC7 (f := 6) rfl (Nat.le_of_ble_eq_true rfl) q569 rfl dX7_number_41 ?_
        refine z_iload_n F dX7_number_44 rfl ?_
        refine z_icmp_gtN F (by omega) (by omega) (tgt := 52) dX7_number_45 (by decide) (fun c_45 => ?_) (fun c_45 => ?_)
        · exact absurd c_45 (by omega)
        · refine z_iconstB F true dX7_number_48 rfl ?_
          refine z_goto F (tgt := 53) dX7_number_49 (by decide) ?_
          refine z_iconst F (nI 2) dX7_number_53 rfl ?_
          refine z_callVH F (c_want_t 2) 2 rfl (lw_V q678 q680 qs8 q125 q681) (by decide +kernel) ⟨Nat.le_of_ble_eq_true rfl, Nat.le_of_ble_eq_true rfl⟩ ⟨by omega, by omega⟩ [0, 22] 24 ⟨rfl, rfl, rfl, ⟨Or.inl rfl, Or.inl rfl, trivial⟩⟩ (fun h => nomatch h) (Nat.le_of_ble_eq_true rfl) ⟨⟨Or.inr trivial, Or.inr rfl, Or.inr trivial, Or.inr trivial, Or.inr trivial, Or.inr trivial, Or.inr trivial, Or.inr trivial, Or.inr trivial, Or.inr trivial, Or.inr trivial, Or.inr trivial, Or.inr trivial, Or.inr trivial, Or.inr trivial, Or.inr trivial, Or.inr trivial, Or.inr trivial, Or.inr trivial, Or.inr trivial, Or.inr trivial, Or.inr trivial, Or.inr rfl, Or.inr trivial, trivial⟩, rfl, rfl, rfl, Nat.le_of_ble_eq_true rfl⟩ rfl zC7 rfl rfl dX7_number_54 (fun r_54 w_54 hp => ?_) (fun _ _ h => h.elim)
          obtain ⟨rfl, rfl⟩ := hp
          refine z_weq (w' := [zH, zO _ [zr _ _, zr _ _, zr _ _, zr _ _, zr _ _, zi _, zi _, zr _ _, zr _ _], zAi 3 400 _, zH, zH, zH, zH, zH, zH, zH, zH, zH, zH, zH, zH, zH, zH, zH, zH, zH, zH, zH, zO _ [zi _, zr _ _, zi _, zi _, zi _, zi _, zi _, zi _, zn, zi _, zr _ _], zAi 0 12 _]) rfl ?_
          refine z_seq (S' := []) rfl ?_
          refine z_aload_n F dX7_number_57 rfl ?_
          refine z_get F zC7 (f := 6) rfl (Nat.le_of_ble_eq_true rfl) q569 rfl dX7_number_58 ?_
          refine z_istore_n F dX7_number_61 (Nat.le_of_ble_eq_true rfl) ?_
          refine z_leq (L' := [_, _, _, _]) rfl ?_
          refine z_aload_n F dX7_number_62 rfl ?_
          refine z_callV F (c_nextA t fp T g z (en tb z b) (kd tb z b) b (en tb z b) u m c tb hz hT htb ((en_ge tb z b).2 hb)) 0 rfl (lw_V q601 q603 qs2 q125 q604) (by decide +kernel) ⟨Nat.le_of_ble_eq_true rfl, Nat.le_of_ble_eq_true rfl⟩ ⟨by omega, by omega⟩ [0, 1, 2, 3, 4, 5, 6, 7, 8, 9, 10, 11, 12, 13, 14, 15, 16, 17, 18, 19, 20, 21, 22, 23] 24 ⟨rfl, rfl, rfl, ⟨Or.inl rfl, Or.inr rfl, Or.inr rfl, Or.inl rfl, Or.inl rfl, Or.inl rfl, Or.inl rfl, Or.inl rfl, Or.inl rfl, Or.inl rfl, Or.inl rfl, Or.inl rfl, Or.inl rfl, Or.inl rfl, Or.inl rfl, Or.inl rfl, Or.inl rfl, Or.inl rfl, Or.inl rfl, Or.inl rfl, Or.inl rfl, Or.inl rfl, Or.inr rfl, Or.inr rfl, trivial⟩⟩ (fun h => nomatch h) (Nat.le_of_ble_eq_true rfl) ⟨⟨Or.inr trivial, Or.inl rfl, Or.inl rfl, Or.inr trivial, Or.inr trivial, Or.inr trivial, Or.inr trivial, Or.inr trivial, Or.inr trivial, Or.inr trivial, Or.inr trivial, Or.inr trivial, Or.inr trivial, Or.inr trivial, Or.inr trivial, Or.inr trivial, Or.inr trivial, Or.inr trivial, Or.inr trivial, Or.inr trivial, Or.inr trivial, Or.inr trivial, Or.inl rfl, Or.inl rfl, trivial⟩, rfl, rfl, rfl, Nat.le_of_ble_eq_true rfl⟩ rfl zC7 rfl rfl dX7_number_63 (fun r_63 w_63 hp => ?_) (fun _ _ h => h.elim)
          obtain ⟨rfl, rfl⟩ := hp
          refine z_weq (w' := [zH, zO _ [zr _ _, zr _ _, zr _ _, zr _ _, zr _ _, zi _, zi _, zr _ _, zr _ _], zAi 3 400 _, zH, zH, zH, zH, zH, zH, zH, zH, zH, zH, zH, zH, zH, zH, zH, zH, zH, zH, zH, zO _ [zi _, zr _ _, zi _, zi _, zi _, zi _, zi _, zi _, zn, zi _, zr _ _], zAi 0 12 _]) rfl ?_
          refine z_seq (S' := []) rfl ?_
          refine z_iload_n F dX7_number_66 rfl ?_
          exact z_iret F E rfl dX7_number_67 (by omega) (by omega) (⟨by rw [e], rfl⟩)
theorem c_number_f (t : Nat) (fp : Int32) (T : Nat → Int32) (g : Nat → Int32) (tb : Nat → Nat) (z b u m c lo hi : Nat) (hz : z ≤ 400) (hT : tBy T tb z) (htb : ∀ i, tb i < 256) (hb : b ≤ z) (hlo : lo < 100) (hhi : hi < 100) (hu2 : u ≤ 10000) (hu : kd tb z b = 2 → u = nvd tb b (en tb z b - b)) (h : nuE tb z lo hi b ≠ 0) : zCtr yX7_number cX7_number 4 (some .int) 5 1 7 [zr 22 0, zi (nI lo), zi (nI hi)] (rTA t fp T g tb z b u m c) (fun r w => False) (fun E w => E = eWrg ∧ True ∧ w = (rTA t fp T g tb z b u m c) ++ [eWr (nuE tb z lo hi b)]) := by
  refine z_start (by decide) [some (zr 22 0), some (zi (nI lo)), some (zi (nI hi)), none] rfl (fun _ => Nat.le_of_ble_eq_true rfl) (fun _ => rfl) (fun X F E hno hin => ?_)
  have he := en_ge tb z b
  have he2 := he.2 hb
  have hk := kd_lt tb z b
  have n1 : kd tb z b ≠ 2 → nuE tb z lo hi b = 1 := fun w => if_pos w
  have n2 : kd tb z b = 2 → nuE tb z lo hi b = 2 ∧ (3 < en tb z b - b ∨ rv tb z b < lo ∨ hi < rv tb z b) := fun w => by
    unfold nuE at h ⊢
    rw [if_neg (by omega)] at h ⊢
    by_cases q : 3 < en tb z b - b ∨ rv tb z b < lo ∨ hi < rv tb z b
    · rw [if_pos q]; exact ⟨rfl, q⟩
    · rw [if_neg q] at h; exact absurd rfl h
  have hr : kd tb z b = 2 → en tb z b - b ≤ 3 → u = rv tb z b := fun w q => (hu w).trans (nvd_rvd _ q (tk_D w).2.2.2)
  refine z_aload_n F dX7_number_0 rfl ?_
  refine z_aload_n F dX7_number_1 rfl ?_
  refine z_get F zC7 (f := 3) rfl (Nat.le_of_ble_eq_true rfl) q565 rfl dX7_number_2 ?_
  refine z_iconst F (nI 2) dX7_number_5 rfl ?_
  refine z_icmp_neN F (by omega) (by omega) (tgt := 13) dX7_number_6 (by decide) (fun c_6 => ?_) (fun c_6 => ?_)
  · refine z_iconstB F false dX7_number_13 rfl ?_
    refine z_iconst F (nI 1) dX7_number_14 rfl ?_
    refine z_callVH F (c_want_f 1) 2 rfl (lw_V q678 q680 qs8 q125 q681) (by decide +kernel) ⟨Nat.le_of_ble_eq_true rfl, Nat.le_of_ble_eq_true rfl⟩ ⟨by omega, by omega⟩ [0, 22] 24 ⟨rfl, rfl, rfl, ⟨Or.inl rfl, Or.inl rfl, trivial⟩⟩ (fun h => nomatch h) (Nat.le_of_ble_eq_true rfl) ⟨⟨Or.inr trivial, Or.inr rfl, Or.inr trivial, Or.inr trivial, Or.inr trivial, Or.inr trivial, Or.inr trivial, Or.inr trivial, Or.inr trivial, Or.inr trivial, Or.inr trivial, Or.inr trivial, Or.inr trivial, Or.inr trivial, Or.inr trivial, Or.inr trivial, Or.inr trivial, Or.inr trivial, Or.inr trivial, Or.inr trivial, Or.inr trivial, Or.inr trivial, Or.inr rfl, Or.inr trivial, trivial⟩, rfl, rfl, rfl, Nat.le_of_ble_eq_true rfl⟩ rfl zC7 rfl rfl dX7_number_15 (fun r_15 w_15 hp => ?_) (fun E_ w_ hx => by obtain ⟨rfl, hb, rfl⟩ := hx; exact zx_out F E hno (by omega) (by omega) (⟨rfl, trivial, by rw [n1 c_6]; rfl⟩))
    exact hp.elim
  · obtain ⟨n3, n4⟩ := n2 (by omega)
    refine z_iconstB F true dX7_number_9 rfl ?_
    refine z_goto F (tgt := 14) dX7_number_10 (by decide) ?_
    refine z_iconst F (nI 1) dX7_number_14 rfl ?_
    refine z_callVH F (c_want_t 1) 2 rfl (lw_V q678 q680 qs8 q125 q681) (by decide +kernel) ⟨Nat.le_of_ble_eq_true rfl, Nat.le_of_ble_eq_true rfl⟩ ⟨by omega, by omega⟩ [0, 22] 24 ⟨rfl, rfl, rfl, ⟨Or.inl rfl, Or.inl rfl, trivial⟩⟩ (fun h => nomatch h) (Nat.le_of_ble_eq_true rfl) ⟨⟨Or.inr trivial, Or.inr rfl, Or.inr trivial, Or.inr trivial, Or.inr trivial, Or.inr trivial, Or.inr trivial, Or.inr trivial, Or.inr trivial, Or.inr trivial, Or.inr trivial, Or.inr trivial, Or.inr trivial, Or.inr trivial, Or.inr trivial, Or.inr trivial, Or.inr trivial, Or.inr trivial, Or.inr trivial, Or.inr trivial, Or.inr trivial, Or.inr trivial, Or.inr rfl, Or.inr trivial, trivial⟩, rfl, rfl, rfl, Nat.le_of_ble_eq_true rfl⟩ rfl zC7 rfl rfl dX7_number_15 (fun r_15 w_15 hp => ?_) (fun _ _ h => h.elim)
    obtain ⟨rfl, rfl⟩ := hp
    refine z_weq (w' := [zH, zO _ [zr _ _, zr _ _, zr _ _, zr _ _, zr _ _, zi _, zi _, zr _ _, zr _ _], zAi 3 400 _, zH, zH, zH, zH, zH, zH, zH, zH, zH, zH, zH, zH, zH, zH, zH, zH, zH, zH, zH, zO _ [zi _, zr _ _, zi _, zi _, zi _, zi _, zi _, zi _, zn, zi _, zr _ _], zAi 0 12 _]) rfl ?_
    refine z_seq (S' := []) rfl ?_
    refine z_aload_n F dX7_number_18 rfl ?_
    refine z_aload_n F dX7_number_19 rfl ?_
    refine z_get F zC7 (f := 5) rfl (Nat.le_of_ble_eq_true rfl) q568 rfl dX7_number_20 ?_
    refine z_aload_n F dX7_number_23 rfl ?_
    refine z_get F zC7 (f := 4) rfl (Nat.le_of_ble_eq_true rfl) q566 rfl dX7_number_24 ?_
    refine z_isubN F (by omega) dX7_number_27 ?_
    refine z_iconst F (nI 3) dX7_number_28 rfl ?_
    refine z_icmp_gtN F (by omega) (by omega) (tgt := 52) dX7_number_29 (by decide) (fun c_29 => ?_) (fun c_29 => ?_)
    · refine z_iconstB F false dX7_number_52 rfl ?_
      refine z_iconst F (nI 2) dX7_number_53 rfl ?_
      refine z_callVH F (c_want_f 2) 2 rfl (lw_V q678 q680 qs8 q125 q681) (by decide +kernel) ⟨Nat.le_of_ble_eq_true rfl, Nat.le_of_ble_eq_true rfl⟩ ⟨by omega, by omega⟩ [0, 22] 24 ⟨rfl, rfl, rfl, ⟨Or.inl rfl, Or.inl rfl, trivial⟩⟩ (fun h => nomatch h) (Nat.le_of_ble_eq_true rfl) ⟨⟨Or.inr trivial, Or.inr rfl, Or.inr trivial, Or.inr trivial, Or.inr trivial, Or.inr trivial, Or.inr trivial, Or.inr trivial, Or.inr trivial, Or.inr trivial, Or.inr trivial, Or.inr trivial, Or.inr trivial, Or.inr trivial, Or.inr trivial, Or.inr trivial, Or.inr trivial, Or.inr trivial, Or.inr trivial, Or.inr trivial, Or.inr trivial, Or.inr trivial, Or.inr rfl, Or.inr trivial, trivial⟩, rfl, rfl, rfl, Nat.le_of_ble_eq_true rfl⟩ rfl zC7 rfl rfl dX7_number_54 (fun r_54 w_54 hp => ?_) (fun E_ w_ hx => by obtain ⟨rfl, hb, rfl⟩ := hx; exact zx_out F E hno (by omega) (by omega) (⟨rfl, trivial, by rw [n3]; rfl⟩))
      exact hp.elim
    · have e := hr (by omega) (by omega)
      refine z_aload_n F dX7_number_32 rfl ?_
      refine z_get F zC7 (f := 6) rfl (Nat.le_of_ble_eq_true rfl) q569 rfl dX7_number_33 ?_
      refine z_iload_n F dX7_number_36 rfl ?_
      refine z_icmp_ltN F (by omega) (by omega) (tgt := 52) dX7_number_37 (by decide) (fun c_37 => ?_) (fun c_37 => ?_)
      · refine z_iconstB F false dX7_number_52 rfl ?_
        refine z_iconst F (nI 2) dX7_number_53 rfl ?_
        refine z_callVH F (c_want_f 2) 2 rfl (lw_V q678 q680 qs8 q125 q681) (by decide +kernel) ⟨Nat.le_of_ble_eq_true rfl, Nat.le_of_ble_eq_true rfl⟩ ⟨by omega, by omega⟩ [0, 22] 24 ⟨rfl, rfl, rfl, ⟨Or.inl rfl, Or.inl rfl, trivial⟩⟩ (fun h => nomatch h) (Nat.le_of_ble_eq_true rfl) ⟨⟨Or.inr trivial, Or.inr rfl, Or.inr trivial, Or.inr trivial, Or.inr trivial, Or.inr trivial, Or.inr trivial, Or.inr trivial, Or.inr trivial, Or.inr trivial, Or.inr trivial, Or.inr trivial, Or.inr trivial, Or.inr trivial, Or.inr trivial, Or.inr trivial, Or.inr trivial, Or.inr trivial, Or.inr trivial, Or.inr trivial, Or.inr trivial, Or.inr trivial, Or.inr rfl, Or.inr trivial, trivial⟩, rfl, rfl, rfl, Nat.le_of_ble_eq_true rfl⟩ rfl zC7 rfl rfl dX7_number_54 (fun r_54 w_54 hp => ?_) (fun E_ w_ hx => by obtain ⟨rfl, hb, rfl⟩ := hx; exact zx_out F E hno (by omega) (by omega) (⟨rfl, trivial, by rw [n3]; rfl⟩))
        exact hp.elim
      · refine z_aload_n F dX7_number_40 rfl ?_
        refine z_get F zC7 (f := 6) rfl (Nat.le_of_ble_eq_true rfl) q569 rfl dX7_number_41 ?_
        refine z_iload_n F dX7_number_44 rfl ?_
        refine z_icmp_gtN F (by omega) (by omega) (tgt := 52) dX7_number_45 (by decide) (fun c_45 => ?_) (fun c_45 => ?_)
        · refine z_iconstB F false dX7_number_52 rfl ?_
          refine z_iconst F (nI 2) dX7_number_53 rfl ?_
          refine z_callVH F (c_want_f 2) 2 rfl (lw_V q678 q680 qs8 q125 q681) (by decide +kernel) ⟨Nat.le_of_ble_eq_true rfl, Nat.le_of_ble_eq_true rfl⟩ ⟨by omega, by omega⟩ [0, 22] 24 ⟨rfl, rfl, rfl, ⟨Or.inl rfl, Or.inl rfl, trivial⟩⟩ (fun h => nomatch h) (Nat.le_of_ble_eq_true rfl) ⟨⟨Or.inr trivial, Or.inr rfl, Or.inr trivial, Or.inr trivial, Or.inr trivial, Or.inr trivial, Or.inr trivial, Or.inr trivial, Or.inr trivial, Or.inr trivial, Or.inr trivial, Or.inr trivial, Or.inr trivial, Or.inr trivial, Or.inr trivial, Or.inr trivial, Or.inr trivial, Or.inr trivial, Or.inr trivial, Or.inr trivial, Or.inr trivial, Or.inr trivial, Or.inr rfl, Or.inr trivial, trivial⟩, rfl, rfl, rfl, Nat.le_of_ble_eq_true rfl⟩ rfl zC7 rfl rfl dX7_number_54 (fun r_54 w_54 hp => ?_) (fun E_ w_ hx => by obtain ⟨rfl, hb, rfl⟩ := hx; exact zx_out F E hno (by omega) (by omega) (⟨rfl, trivial, by rw [n3]; rfl⟩))
          exact hp.elim
        · exact absurd c_45 (by omega)
theorem c_semi_t (t : Nat) (fp : Int32) (T : Nat → Int32) (n d : Nat) (f g : Nat → Int32) (tb : Nat → Nat) (z b u m c : Nat) (hz : z ≤ 400) (hT : tBy T tb z) (htb : ∀ i, tb i < 256) (hb : b ≤ z) (h : kd tb z b = 3) : zCtr yX7_semi cX7_semi 1 none 5 0 0 [zr 22 0] (rTB t fp T n d f g tb z b u m c) (fun r w => r = none ∧ w = (rTB t fp T n d f g tb z (nb tb z b) (nuV tb z (nb tb z b) u) m c)) zNx := by
  refine z_start (by decide) [some (zr 22 0)] rfl (fun _ => Nat.le_of_ble_eq_true rfl) (fun _ => rfl) (fun X F E hno hin => ?_)
  refine z_aload_n F dX7_semi_0 rfl ?_
  refine z_aload_n F dX7_semi_1 rfl ?_
  refine z_get F zC7 (f := 3) rfl (Nat.le_of_ble_eq_true rfl) q565 rfl dX7_semi_2 ?_
  refine z_iconst F (nI 3) dX7_semi_5 rfl ?_
  refine z_icmp_neN F (by omega) (by omega) (tgt := 13) dX7_semi_6 (by decide) (fun c_6 => ?_) (fun c_6 => ?_)
  · exact absurd c_6 (by omega)
  · refine z_iconstB F true dX7_semi_9 rfl ?_
    refine z_goto F (tgt := 14) dX7_semi_10 (by decide) ?_
    refine z_iconst F (nI 1) dX7_semi_14 rfl ?_
    refine z_callVH F (c_want_t 1) 2 rfl (lw_V q678 q680 qs8 q125 q681) (by decide +kernel) ⟨Nat.le_of_ble_eq_true rfl, Nat.le_of_ble_eq_true rfl⟩ ⟨by omega, by omega⟩ [0, 22] 26 ⟨rfl, rfl, rfl, ⟨Or.inl rfl, Or.inl rfl, trivial⟩⟩ (fun h => nomatch h) (Nat.le_of_ble_eq_true rfl) ⟨⟨Or.inr trivial, Or.inr rfl, Or.inr trivial, Or.inr trivial, Or.inr trivial, Or.inr trivial, Or.inr trivial, Or.inr trivial, Or.inr trivial, Or.inr trivial, Or.inr trivial, Or.inr trivial, Or.inr trivial, Or.inr trivial, Or.inr trivial, Or.inr trivial, Or.inr trivial, Or.inr trivial, Or.inr trivial, Or.inr trivial, Or.inr trivial, Or.inr trivial, Or.inr rfl, Or.inr trivial, Or.inr rfl, Or.inr trivial, trivial⟩, rfl, rfl, rfl, Nat.le_of_ble_eq_true rfl⟩ rfl zC7 rfl rfl dX7_semi_15 (fun r_15 w_15 hp => ?_) (fun _ _ h => h.elim)
    obtain ⟨rfl, rfl⟩ := hp
    refine z_weq (w' := [zH, zO _ [zr _ _, zr _ _, zr _ _, zr _ _, zr _ _, zi _, zi _, zr _ _, zr _ _], zAi 3 400 _, zH, zH, zH, zH, zH, zH, zH, zH, zH, zH, zH, zH, zH, zH, zH, zH, zH, zH, zH, zO _ [zi _, zr _ _, zi _, zi _, zi _, zi _, zi _, zi _, zr _ _, zi _, zr _ _], zAi 0 12 _, zO _ [zi _, zi _, zr _ _], zAi 0 24 _]) rfl ?_
    refine z_seq (S' := []) rfl ?_
    refine z_aload_n F dX7_semi_18 rfl ?_
    refine z_callV F (c_nextB t fp T n d f g z (en tb z b) (kd tb z b) b (en tb z b) u m c tb hz hT htb ((en_ge tb z b).2 hb)) 0 rfl (lw_V q601 q603 qs2 q125 q604) (by decide +kernel) ⟨Nat.le_of_ble_eq_true rfl, Nat.le_of_ble_eq_true rfl⟩ ⟨by omega, by omega⟩ [0, 1, 2, 3, 4, 5, 6, 7, 8, 9, 10, 11, 12, 13, 14, 15, 16, 17, 18, 19, 20, 21, 22, 23, 24, 25] 26 ⟨rfl, rfl, rfl, ⟨Or.inl rfl, Or.inr rfl, Or.inr rfl, Or.inl rfl, Or.inl rfl, Or.inl rfl, Or.inl rfl, Or.inl rfl, Or.inl rfl, Or.inl rfl, Or.inl rfl, Or.inl rfl, Or.inl rfl, Or.inl rfl, Or.inl rfl, Or.inl rfl, Or.inl rfl, Or.inl rfl, Or.inl rfl, Or.inl rfl, Or.inl rfl, Or.inl rfl, Or.inr rfl, Or.inr rfl, Or.inr rfl, Or.inr rfl, trivial⟩⟩ (fun h => nomatch h) (Nat.le_of_ble_eq_true rfl) ⟨⟨Or.inr trivial, Or.inl rfl, Or.inl rfl, Or.inr trivial, Or.inr trivial, Or.inr trivial, Or.inr trivial, Or.inr trivial, Or.inr trivial, Or.inr trivial, Or.inr trivial, Or.inr trivial, Or.inr trivial, Or.inr trivial, Or.inr trivial, Or.inr trivial, Or.inr trivial, Or.inr trivial, Or.inr trivial, Or.inr trivial, Or.inr trivial, Or.inr trivial, Or.inl rfl, Or.inl rfl, Or.inl rfl, Or.inl rfl, trivial⟩, rfl, rfl, rfl, Nat.le_of_ble_eq_true rfl⟩ rfl zC7 rfl rfl dX7_semi_19 (fun r_19 w_19 hp => ?_) (fun _ _ h => h.elim)
    obtain ⟨rfl, rfl⟩ := hp
    refine z_weq (w' := [zH, zO _ [zr _ _, zr _ _, zr _ _, zr _ _, zr _ _, zi _, zi _, zr _ _, zr _ _], zAi 3 400 _, zH, zH, zH, zH, zH, zH, zH, zH, zH, zH, zH, zH, zH, zH, zH, zH, zH, zH, zH, zO _ [zi _, zr _ _, zi _, zi _, zi _, zi _, zi _, zi _, zr _ _, zi _, zr _ _], zAi 0 12 _, zO _ [zi _, zi _, zr _ _], zAi 0 24 _]) rfl ?_
    refine z_seq (S' := []) rfl ?_
    exact z_vret F E rfl dX7_semi_22 (by omega) (by omega) (⟨rfl, rfl⟩)
theorem c_semi_f (t : Nat) (fp : Int32) (T : Nat → Int32) (n d : Nat) (f g : Nat → Int32) (tb : Nat → Nat) (z b u m c : Nat) (hz : z ≤ 400) (hT : tBy T tb z) (htb : ∀ i, tb i < 256) (hb : b ≤ z) (h : kd tb z b ≠ 3) : zCtr yX7_semi cX7_semi 1 none 5 1 7 [zr 22 0] (rTB t fp T n d f g tb z b u m c) (fun r w => False) (fun E w => E = eWrg ∧ True ∧ w = (rTB t fp T n d f g tb z b u m c) ++ [eWr (1)]) := by
  refine z_start (by decide) [some (zr 22 0)] rfl (fun _ => Nat.le_of_ble_eq_true rfl) (fun _ => rfl) (fun X F E hno hin => ?_)
  have hk := kd_lt tb z b
  refine z_aload_n F dX7_semi_0 rfl ?_
  refine z_aload_n F dX7_semi_1 rfl ?_
  refine z_get F zC7 (f := 3) rfl (Nat.le_of_ble_eq_true rfl) q565 rfl dX7_semi_2 ?_
  refine z_iconst F (nI 3) dX7_semi_5 rfl ?_
  refine z_icmp_neN F (by omega) (by omega) (tgt := 13) dX7_semi_6 (by decide) (fun c_6 => ?_) (fun c_6 => ?_)
  · refine z_iconstB F false dX7_semi_13 rfl ?_
    refine z_iconst F (nI 1) dX7_semi_14 rfl ?_
    refine z_callVH F (c_want_f 1) 2 rfl (lw_V q678 q680 qs8 q125 q681) (by decide +kernel) ⟨Nat.le_of_ble_eq_true rfl, Nat.le_of_ble_eq_true rfl⟩ ⟨by omega, by omega⟩ [0, 22] 26 ⟨rfl, rfl, rfl, ⟨Or.inl rfl, Or.inl rfl, trivial⟩⟩ (fun h => nomatch h) (Nat.le_of_ble_eq_true rfl) ⟨⟨Or.inr trivial, Or.inr rfl, Or.inr trivial, Or.inr trivial, Or.inr trivial, Or.inr trivial, Or.inr trivial, Or.inr trivial, Or.inr trivial, Or.inr trivial, Or.inr trivial, Or.inr trivial, Or.inr trivial, Or.inr trivial, Or.inr trivial, Or.inr trivial, Or.inr trivial, Or.inr trivial, Or.inr trivial, Or.inr trivial, Or.inr trivial, Or.inr trivial, Or.inr rfl, Or.inr trivial, Or.inr rfl, Or.inr trivial, trivial⟩, rfl, rfl, rfl, Nat.le_of_ble_eq_true rfl⟩ rfl zC7 rfl rfl dX7_semi_15 (fun r_15 w_15 hp => ?_) (fun E_ w_ hx => by obtain ⟨rfl, hb, rfl⟩ := hx; exact zx_out F E hno (by omega) (by omega) (⟨rfl, trivial, rfl⟩))
    exact hp.elim
  · exact absurd c_6 (by omega)
theorem c_knot_t (t : Nat) (fp : Int32) (T : Nat → Int32) (n d : Nat) (f g : Nat → Int32) (tb : Nat → Nat) (z b u m c : Nat) (l : Nat → Nat) (hz : z ≤ 400) (hT : tBy T tb z) (htb : ∀ i, tb i < 256) (hb : b ≤ z) (hu : kd tb z b = 2 → u = nvd tb b (en tb z b - b)) (hn : n ≤ 24) (hl : lok n l m) (hg : ∀ k, k < m → g k = nI (l k)) (h : knE tb z n l m b = 0) : zCtr yX7_knot cX7_knot 2 none 5 0 0 [zr 22 0] (rTB t fp T n d f g tb z b u m c) (fun r w => r = none ∧ ∃ g', w = (rTB t fp T n d f g' tb z (nb tb z b) (nuV tb z (nb tb z b) u) (m + 1) c) ∧ ∀ k, k < m + 1 → g' k = nI (lput l m (rv tb z b) k)) zNx := by
  refine z_start (by decide) [some (zr 22 0), none] rfl (fun _ => Nat.le_of_ble_eq_true rfl) (fun _ => rfl) (fun X F E hno hin => ?_)
  obtain ⟨h1, h2, h3, h4, h5⟩ := knE_0 h
  have hm12 := hl.2.2
  have e : u = rv tb z b := (hu h1).trans (nvd_rvd _ h2 (tk_D h1).2.2.2)
  have he := en_ge tb z b
  have he2 := he.2 hb
  have lp : ∀ (x k : Nat), m - k < x → k ≤ m → Z X [some (zr 22 0), some (zi (nI k))] [] (rTB t fp T n d f g tb z b u m c) 0 0 76 := by
    intro x
    induction x with
    | zero => intro k hx; omega
    | succ x ih =>
      intro k hx hk
      have hlk : k < m → l k < 24 := fun w => by have := hl.1 k w; omega
      have hne : k < m → l k ≠ u := fun w q => by rw [lmem_t.mpr ⟨k, w, q.trans e⟩] at h5; cases h5
      have hlk2 : k < m → l k < 24 ∧ l k ≠ u := fun w => ⟨hlk w, hne w⟩
      refine z_iload_n F dX7_knot_76 rfl ?_
      refine z_aload_n F dX7_knot_77 rfl ?_
      refine z_get F zC7 (f := 7) rfl (Nat.le_of_ble_eq_true rfl) q570 rfl dX7_knot_78 ?_
      refine z_icmp_geN F (by omega) (by omega) (tgt := 113) dX7_knot_81 (by decide) (fun c_81 => ?_) (fun c_81 => ?_)
      · refine z_aload_n F dX7_knot_113 rfl ?_
        refine z_get F zC7 (f := 1) rfl (Nat.le_of_ble_eq_true rfl) q563 rfl dX7_knot_114 ?_
        refine z_aload_n F dX7_knot_117 rfl ?_
        refine z_get F zC7 (f := 7) rfl (Nat.le_of_ble_eq_true rfl) q570 rfl dX7_knot_118 ?_
        refine z_aload_n F dX7_knot_121 rfl ?_
        refine z_get F zC7 (f := 6) rfl (Nat.le_of_ble_eq_true rfl) q569 rfl dX7_knot_122 ?_
        refine z_iastN F rfl (Nat.le_of_ble_eq_true rfl) (by omega) dX7_knot_125 ?_
        refine z_weq (w' := [_, _, _, _, _, _, _, _, _, _, _, _, _, _, _, _, _, _, _, _, _, _, _, _, _, _]) rfl ?_
        refine z_aload_n F dX7_knot_126 rfl ?_
        refine z_dup F dX7_knot_127 rfl ?_
        refine z_get F zC7 (f := 7) rfl (Nat.le_of_ble_eq_true rfl) q570 rfl dX7_knot_128 ?_
        refine z_iconst F (nI 1) dX7_knot_131 rfl ?_
        refine z_iaddN F dX7_knot_132 ?_
        refine z_put F zC7 (f := 7) rfl (Nat.le_of_ble_eq_true rfl) q570 rfl (fun _ => rfl) (fun _ => rfl) (Nat.le_of_ble_eq_true rfl) dX7_knot_133 ?_
        refine z_weq (w' := [_, _, _, _, _, _, _, _, _, _, _, _, _, _, _, _, _, _, _, _, _, _, zO _ [_, _, _, _, _, _, _, _, _, _, _], _, _, _]) rfl ?_
        refine z_aload_n F dX7_knot_136 rfl ?_
        refine z_callV F (c_nextB t fp T n d f (upd g m (nI u)) z (en tb z b) (kd tb z b) b (en tb z b) u (m + 1) c tb hz hT htb ((en_ge tb z b).2 hb)) 0 rfl (lw_V q601 q603 qs2 q125 q604) (by decide +kernel) ⟨Nat.le_of_ble_eq_true rfl, Nat.le_of_ble_eq_true rfl⟩ ⟨by omega, by omega⟩ [0, 1, 2, 3, 4, 5, 6, 7, 8, 9, 10, 11, 12, 13, 14, 15, 16, 17, 18, 19, 20, 21, 22, 23, 24, 25] 26 ⟨rfl, rfl, rfl, ⟨Or.inl rfl, Or.inr rfl, Or.inr rfl, Or.inl rfl, Or.inl rfl, Or.inl rfl, Or.inl rfl, Or.inl rfl, Or.inl rfl, Or.inl rfl, Or.inl rfl, Or.inl rfl, Or.inl rfl, Or.inl rfl, Or.inl rfl, Or.inl rfl, Or.inl rfl, Or.inl rfl, Or.inl rfl, Or.inl rfl, Or.inl rfl, Or.inl rfl, Or.inr rfl, Or.inr rfl, Or.inr rfl, Or.inr rfl, trivial⟩⟩ (fun h => nomatch h) (Nat.le_of_ble_eq_true rfl) ⟨⟨Or.inr trivial, Or.inl rfl, Or.inl rfl, Or.inr trivial, Or.inr trivial, Or.inr trivial, Or.inr trivial, Or.inr trivial, Or.inr trivial, Or.inr trivial, Or.inr trivial, Or.inr trivial, Or.inr trivial, Or.inr trivial, Or.inr trivial, Or.inr trivial, Or.inr trivial, Or.inr trivial, Or.inr trivial, Or.inr trivial, Or.inr trivial, Or.inr trivial, Or.inl rfl, Or.inl rfl, Or.inl rfl, Or.inl rfl, trivial⟩, rfl, rfl, rfl, Nat.le_of_ble_eq_true rfl⟩ rfl zC7 rfl rfl dX7_knot_137 (fun r_137 w_137 hp => ?_) (fun _ _ h => h.elim)
        obtain ⟨rfl, rfl⟩ := hp
        refine z_weq (w' := [zH, zO _ [zr _ _, zr _ _, zr _ _, zr _ _, zr _ _, zi _, zi _, zr _ _, zr _ _], zAi 3 400 _, zH, zH, zH, zH, zH, zH, zH, zH, zH, zH, zH, zH, zH, zH, zH, zH, zH, zH, zH, zO _ [zi _, zr _ _, zi _, zi _, zi _, zi _, zi _, zi _, zr _ _, zi _, zr _ _], zAi 0 12 _, zO _ [zi _, zi _, zr _ _], zAi 0 24 _]) rfl ?_
        refine z_seq (S' := []) rfl ?_
        exact z_vret F E rfl dX7_knot_140 (by omega) (by omega) (⟨rfl, upd g m (nI u), rfl, fun q hq => by
  rw [upd_at, lput]
  by_cases w : q = m
  · rw [if_pos w, if_pos w, e]
  · rw [if_neg w, if_neg w]; exact hg q (by omega)⟩)
      · obtain ⟨y1, y2⟩ := hlk2 (by omega)
        refine z_aload_n F dX7_knot_84 rfl ?_
        refine z_aload_n F dX7_knot_85 rfl ?_
        refine z_get F zC7 (f := 1) rfl (Nat.le_of_ble_eq_true rfl) q563 rfl dX7_knot_86 ?_
        refine z_iload_n F dX7_knot_89 rfl ?_
        refine z_ialdN F rfl (Nat.le_of_ble_eq_true rfl) (by omega) rfl dX7_knot_90 ?_
        refine z_ieq (hg k (by omega)) ?_
        refine z_aload_n F dX7_knot_91 rfl ?_
        refine z_get F zC7 (f := 6) rfl (Nat.le_of_ble_eq_true rfl) q569 rfl dX7_knot_92 ?_
        refine z_icmp_eqN F (by omega) (by omega) (tgt := 102) dX7_knot_95 (by decide) (fun c_95 => ?_) (fun c_95 => ?_)
        · exact absurd c_95 (by omega)
        · refine z_iconstB F true dX7_knot_98 rfl ?_
          refine z_goto F (tgt := 103) dX7_knot_99 (by decide) ?_
          refine z_iconst F (nI 4) dX7_knot_103 rfl ?_
          refine z_callVH F (c_want_t 4) 2 rfl (lw_V q678 q680 qs8 q125 q681) (by decide +kernel) ⟨Nat.le_of_ble_eq_true rfl, Nat.le_of_ble_eq_true rfl⟩ ⟨by omega, by omega⟩ [0, 22] 26 ⟨rfl, rfl, rfl, ⟨Or.inl rfl, Or.inl rfl, trivial⟩⟩ (fun h => nomatch h) (Nat.le_of_ble_eq_true rfl) ⟨⟨Or.inr trivial, Or.inr rfl, Or.inr trivial, Or.inr trivial, Or.inr trivial, Or.inr trivial, Or.inr trivial, Or.inr trivial, Or.inr trivial, Or.inr trivial, Or.inr trivial, Or.inr trivial, Or.inr trivial, Or.inr trivial, Or.inr trivial, Or.inr trivial, Or.inr trivial, Or.inr trivial, Or.inr trivial, Or.inr trivial, Or.inr trivial, Or.inr trivial, Or.inr rfl, Or.inr trivial, Or.inr rfl, Or.inr trivial, trivial⟩, rfl, rfl, rfl, Nat.le_of_ble_eq_true rfl⟩ rfl zC7 rfl rfl dX7_knot_104 (fun r_104 w_104 hp => ?_) (fun _ _ h => h.elim)
          obtain ⟨rfl, rfl⟩ := hp
          refine z_weq (w' := [zH, zO _ [zr _ _, zr _ _, zr _ _, zr _ _, zr _ _, zi _, zi _, zr _ _, zr _ _], zAi 3 400 _, zH, zH, zH, zH, zH, zH, zH, zH, zH, zH, zH, zH, zH, zH, zH, zH, zH, zH, zH, zO _ [zi _, zr _ _, zi _, zi _, zi _, zi _, zi _, zi _, zr _ _, zi _, zr _ _], zAi 0 12 _, zO _ [zi _, zi _, zr _ _], zAi 0 24 _]) rfl ?_
          refine z_seq (S' := []) rfl ?_
          refine z_iincN F 1 dX7_knot_107 rfl rfl ?_
          refine z_leq (L' := [_, _]) rfl ?_
          refine z_goto F (tgt := 76) dX7_knot_110 (by decide) ?_
          exact ih (k + 1) (by omega) (by omega)
  refine z_aload_n F dX7_knot_0 rfl ?_
  refine z_aload_n F dX7_knot_1 rfl ?_
  refine z_get F zC7 (f := 3) rfl (Nat.le_of_ble_eq_true rfl) q565 rfl dX7_knot_2 ?_
  refine z_iconst F (nI 2) dX7_knot_5 rfl ?_
  refine z_icmp_neN F (by omega) (by omega) (tgt := 13) dX7_knot_6 (by decide) (fun c_6 => ?_) (fun c_6 => ?_)
  · exact absurd c_6 (by omega)
  · refine z_iconstB F true dX7_knot_9 rfl ?_
    refine z_goto F (tgt := 14) dX7_knot_10 (by decide) ?_
    refine z_iconst F (nI 1) dX7_knot_14 rfl ?_
    refine z_callVH F (c_want_t 1) 2 rfl (lw_V q678 q680 qs8 q125 q681) (by decide +kernel) ⟨Nat.le_of_ble_eq_true rfl, Nat.le_of_ble_eq_true rfl⟩ ⟨by omega, by omega⟩ [0, 22] 26 ⟨rfl, rfl, rfl, ⟨Or.inl rfl, Or.inl rfl, trivial⟩⟩ (fun h => nomatch h) (Nat.le_of_ble_eq_true rfl) ⟨⟨Or.inr trivial, Or.inr rfl, Or.inr trivial, Or.inr trivial, Or.inr trivial, Or.inr trivial, Or.inr trivial, Or.inr trivial, Or.inr trivial, Or.inr trivial, Or.inr trivial, Or.inr trivial, Or.inr trivial, Or.inr trivial, Or.inr trivial, Or.inr trivial, Or.inr trivial, Or.inr trivial, Or.inr trivial, Or.inr trivial, Or.inr trivial, Or.inr trivial, Or.inr rfl, Or.inr trivial, Or.inr rfl, Or.inr trivial, trivial⟩, rfl, rfl, rfl, Nat.le_of_ble_eq_true rfl⟩ rfl zC7 rfl rfl dX7_knot_15 (fun r_15 w_15 hp => ?_) (fun _ _ h => h.elim)
    obtain ⟨rfl, rfl⟩ := hp
    refine z_weq (w' := [zH, zO _ [zr _ _, zr _ _, zr _ _, zr _ _, zr _ _, zi _, zi _, zr _ _, zr _ _], zAi 3 400 _, zH, zH, zH, zH, zH, zH, zH, zH, zH, zH, zH, zH, zH, zH, zH, zH, zH, zH, zH, zO _ [zi _, zr _ _, zi _, zi _, zi _, zi _, zi _, zi _, zr _ _, zi _, zr _ _], zAi 0 12 _, zO _ [zi _, zi _, zr _ _], zAi 0 24 _]) rfl ?_
    refine z_seq (S' := []) rfl ?_
    refine z_aload_n F dX7_knot_18 rfl ?_
    refine z_aload_n F dX7_knot_19 rfl ?_
    refine z_get F zC7 (f := 5) rfl (Nat.le_of_ble_eq_true rfl) q568 rfl dX7_knot_20 ?_
    refine z_aload_n F dX7_knot_23 rfl ?_
    refine z_get F zC7 (f := 4) rfl (Nat.le_of_ble_eq_true rfl) q566 rfl dX7_knot_24 ?_
    refine z_isubN F (by omega) dX7_knot_27 ?_
    refine z_iconst F (nI 3) dX7_knot_28 rfl ?_
    refine z_icmp_gtN F (by omega) (by omega) (tgt := 45) dX7_knot_29 (by decide) (fun c_29 => ?_) (fun c_29 => ?_)
    · exact absurd c_29 (by omega)
    · refine z_aload_n F dX7_knot_32 rfl ?_
      refine z_get F zC7 (f := 7) rfl (Nat.le_of_ble_eq_true rfl) q570 rfl dX7_knot_33 ?_
      refine z_bipush F (nI 12) dX7_knot_36 rfl ?_
      refine z_icmp_geN F (by omega) (by omega) (tgt := 45) dX7_knot_38 (by decide) (fun c_38 => ?_) (fun c_38 => ?_)
      · exact absurd c_38 (by omega)
      · refine z_iconstB F true dX7_knot_41 rfl ?_
        refine z_goto F (tgt := 46) dX7_knot_42 (by decide) ?_
        refine z_iconst F (nI 2) dX7_knot_46 rfl ?_
        refine z_callVH F (c_want_t 2) 2 rfl (lw_V q678 q680 qs8 q125 q681) (by decide +kernel) ⟨Nat.le_of_ble_eq_true rfl, Nat.le_of_ble_eq_true rfl⟩ ⟨by omega, by omega⟩ [0, 22] 26 ⟨rfl, rfl, rfl, ⟨Or.inl rfl, Or.inl rfl, trivial⟩⟩ (fun h => nomatch h) (Nat.le_of_ble_eq_true rfl) ⟨⟨Or.inr trivial, Or.inr rfl, Or.inr trivial, Or.inr trivial, Or.inr trivial, Or.inr trivial, Or.inr trivial, Or.inr trivial, Or.inr trivial, Or.inr trivial, Or.inr trivial, Or.inr trivial, Or.inr trivial, Or.inr trivial, Or.inr trivial, Or.inr trivial, Or.inr trivial, Or.inr trivial, Or.inr trivial, Or.inr trivial, Or.inr trivial, Or.inr trivial, Or.inr rfl, Or.inr trivial, Or.inr rfl, Or.inr trivial, trivial⟩, rfl, rfl, rfl, Nat.le_of_ble_eq_true rfl⟩ rfl zC7 rfl rfl dX7_knot_47 (fun r_47 w_47 hp => ?_) (fun _ _ h => h.elim)
        obtain ⟨rfl, rfl⟩ := hp
        refine z_weq (w' := [zH, zO _ [zr _ _, zr _ _, zr _ _, zr _ _, zr _ _, zi _, zi _, zr _ _, zr _ _], zAi 3 400 _, zH, zH, zH, zH, zH, zH, zH, zH, zH, zH, zH, zH, zH, zH, zH, zH, zH, zH, zH, zO _ [zi _, zr _ _, zi _, zi _, zi _, zi _, zi _, zi _, zr _ _, zi _, zr _ _], zAi 0 12 _, zO _ [zi _, zi _, zr _ _], zAi 0 24 _]) rfl ?_
        refine z_seq (S' := []) rfl ?_
        refine z_aload_n F dX7_knot_50 rfl ?_
        refine z_aload_n F dX7_knot_51 rfl ?_
        refine z_get F zC7 (f := 6) rfl (Nat.le_of_ble_eq_true rfl) q569 rfl dX7_knot_52 ?_
        refine z_aload_n F dX7_knot_55 rfl ?_
        refine z_get F zC7 (f := 8) rfl (Nat.le_of_ble_eq_true rfl) q571 rfl dX7_knot_56 ?_
        refine z_getN F zC5 (f := 0) rfl (Nat.le_of_ble_eq_true rfl) q246 rfl dX7_knot_59 ?_
        refine z_icmp_geN F (by omega) (by omega) (tgt := 69) dX7_knot_62 (by decide) (fun c_62 => ?_) (fun c_62 => ?_)
        · exact absurd c_62 (by omega)
        · refine z_iconstB F true dX7_knot_65 rfl ?_
          refine z_goto F (tgt := 70) dX7_knot_66 (by decide) ?_
          refine z_iconst F (nI 3) dX7_knot_70 rfl ?_
          refine z_callVH F (c_want_t 3) 2 rfl (lw_V q678 q680 qs8 q125 q681) (by decide +kernel) ⟨Nat.le_of_ble_eq_true rfl, Nat.le_of_ble_eq_true rfl⟩ ⟨by omega, by omega⟩ [0, 22] 26 ⟨rfl, rfl, rfl, ⟨Or.inl rfl, Or.inl rfl, trivial⟩⟩ (fun h => nomatch h) (Nat.le_of_ble_eq_true rfl) ⟨⟨Or.inr trivial, Or.inr rfl, Or.inr trivial, Or.inr trivial, Or.inr trivial, Or.inr trivial, Or.inr trivial, Or.inr trivial, Or.inr trivial, Or.inr trivial, Or.inr trivial, Or.inr trivial, Or.inr trivial, Or.inr trivial, Or.inr trivial, Or.inr trivial, Or.inr trivial, Or.inr trivial, Or.inr trivial, Or.inr trivial, Or.inr trivial, Or.inr trivial, Or.inr rfl, Or.inr trivial, Or.inr rfl, Or.inr trivial, trivial⟩, rfl, rfl, rfl, Nat.le_of_ble_eq_true rfl⟩ rfl zC7 rfl rfl dX7_knot_71 (fun r_71 w_71 hp => ?_) (fun _ _ h => h.elim)
          obtain ⟨rfl, rfl⟩ := hp
          refine z_weq (w' := [zH, zO _ [zr _ _, zr _ _, zr _ _, zr _ _, zr _ _, zi _, zi _, zr _ _, zr _ _], zAi 3 400 _, zH, zH, zH, zH, zH, zH, zH, zH, zH, zH, zH, zH, zH, zH, zH, zH, zH, zH, zH, zO _ [zi _, zr _ _, zi _, zi _, zi _, zi _, zi _, zi _, zr _ _, zi _, zr _ _], zAi 0 12 _, zO _ [zi _, zi _, zr _ _], zAi 0 24 _]) rfl ?_
          refine z_seq (S' := []) rfl ?_
          refine z_iconst F (nI 0) dX7_knot_74 rfl ?_
          refine z_istore_n F dX7_knot_75 (Nat.le_of_ble_eq_true rfl) ?_
          refine z_leq (L' := [_, _]) rfl ?_
          exact lp (m + 1) 0 (by omega) (by omega)
theorem c_knot_f (t : Nat) (fp : Int32) (T : Nat → Int32) (n d : Nat) (f g : Nat → Int32) (tb : Nat → Nat) (z b u m c : Nat) (l : Nat → Nat) (hz : z ≤ 400) (hT : tBy T tb z) (htb : ∀ i, tb i < 256) (hb : b ≤ z) (hu2 : u ≤ 10000) (hu : kd tb z b = 2 → u = nvd tb b (en tb z b - b)) (hn : n ≤ 24) (hl : lok n l m) (hg : ∀ k, k < m → g k = nI (l k)) (h : knE tb z n l m b ≠ 0) : zCtr yX7_knot cX7_knot 2 none 5 1 7 [zr 22 0] (rTB t fp T n d f g tb z b u m c) (fun r w => False) (fun E w => E = eWrg ∧ True ∧ w = (rTB t fp T n d f g tb z b u m c) ++ [eWr (knE tb z n l m b)]) := by
  refine z_start (by decide) [some (zr 22 0), none] rfl (fun _ => Nat.le_of_ble_eq_true rfl) (fun _ => rfl) (fun X F E hno hin => ?_)
  have hm12 := hl.2.2
  have he := en_ge tb z b
  have he2 := he.2 hb
  have hk9 := kd_lt tb z b
  have hr : kd tb z b = 2 → en tb z b - b ≤ 3 → u = rv tb z b := fun w q => (hu w).trans (nvd_rvd _ q (tk_D w).2.2.2)
  have n1 : kd tb z b ≠ 2 → knE tb z n l m b = 1 := fun w => if_pos w
  have n2 : kd tb z b = 2 → (3 < en tb z b - b ∨ m = 12) → knE tb z n l m b = 2 := fun w q => by unfold knE; rw [if_neg (by omega), if_pos q]
  have n3 : kd tb z b = 2 → ¬ (3 < en tb z b - b ∨ m = 12) → n ≤ rv tb z b → knE tb z n l m b = 3 := fun w q q2 => by unfold knE; rw [if_neg (by omega), if_neg q, if_pos q2]
  have n4 : kd tb z b = 2 → ¬ (3 < en tb z b - b ∨ m = 12) → ¬ n ≤ rv tb z b → knE tb z n l m b = 4 ∧ lmem l (rv tb z b) m = true := fun w q q2 => by
    unfold knE at h ⊢
    rw [if_neg (by omega), if_neg q, if_neg q2] at h ⊢
    by_cases q3 : lmem l (rv tb z b) m = true
    · rw [if_pos q3]; exact ⟨rfl, q3⟩
    · rw [if_neg q3] at h; exact absurd rfl h
  have lp : knE tb z n l m b = 4 → lmem l u m = true → ∀ (x k : Nat), m - k < x → k ≤ m → (∀ q, q < k → l q ≠ u) → Z X [some (zr 22 0), some (zi (nI k))] [] (rTB t fp T n d f g tb z b u m c) 0 0 76 := by
    intro n5 n6 x
    induction x with
    | zero => intro k hx; omega
    | succ x ih =>
      intro k hx hk hne
      have hlk : k < m → l k < 24 := fun w => by have := hl.1 k w; omega
      refine z_iload_n F dX7_knot_76 rfl ?_
      refine z_aload_n F dX7_knot_77 rfl ?_
      refine z_get F zC7 (f := 7) rfl (Nat.le_of_ble_eq_true rfl) q570 rfl dX7_knot_78 ?_
      refine z_icmp_geN F (by omega) (by omega) (tgt := 113) dX7_knot_81 (by decide) (fun c_81 => ?_) (fun c_81 => ?_)
      · exact ((lmem_t.mp n6).elim fun q w => hne q (by omega) w.2 : False).elim
      · have y1 := hlk (by omega)
        refine z_aload_n F dX7_knot_84 rfl ?_
        refine z_aload_n F dX7_knot_85 rfl ?_
        refine z_get F zC7 (f := 1) rfl (Nat.le_of_ble_eq_true rfl) q563 rfl dX7_knot_86 ?_
        refine z_iload_n F dX7_knot_89 rfl ?_
        refine z_ialdN F rfl (Nat.le_of_ble_eq_true rfl) (by omega) rfl dX7_knot_90 ?_
        refine z_ieq (hg k (by omega)) ?_
        refine z_aload_n F dX7_knot_91 rfl ?_
        refine z_get F zC7 (f := 6) rfl (Nat.le_of_ble_eq_true rfl) q569 rfl dX7_knot_92 ?_
        refine z_icmp_eqN F (by omega) (by omega) (tgt := 102) dX7_knot_95 (by decide) (fun c_95 => ?_) (fun c_95 => ?_)
        · refine z_iconstB F false dX7_knot_102 rfl ?_
          refine z_iconst F (nI 4) dX7_knot_103 rfl ?_
          refine z_callVH F (c_want_f 4) 2 rfl (lw_V q678 q680 qs8 q125 q681) (by decide +kernel) ⟨Nat.le_of_ble_eq_true rfl, Nat.le_of_ble_eq_true rfl⟩ ⟨by omega, by omega⟩ [0, 22] 26 ⟨rfl, rfl, rfl, ⟨Or.inl rfl, Or.inl rfl, trivial⟩⟩ (fun h => nomatch h) (Nat.le_of_ble_eq_true rfl) ⟨⟨Or.inr trivial, Or.inr rfl, Or.inr trivial, Or.inr trivial, Or.inr trivial, Or.inr trivial, Or.inr trivial, Or.inr trivial, Or.inr trivial, Or.inr trivial, Or.inr trivial, Or.inr trivial, Or.inr trivial, Or.inr trivial, Or.inr trivial, Or.inr trivial, Or.inr trivial, Or.inr trivial, Or.inr trivial, Or.inr trivial, Or.inr trivial, Or.inr trivial, Or.inr rfl, Or.inr trivial, Or.inr rfl, Or.inr trivial, trivial⟩, rfl, rfl, rfl, Nat.le_of_ble_eq_true rfl⟩ rfl zC7 rfl rfl dX7_knot_104 (fun r_104 w_104 hp => ?_) (fun E_ w_ hx => by obtain ⟨rfl, hb, rfl⟩ := hx; exact zx_out F E hno (by omega) (by omega) (⟨rfl, trivial, by rw [n5]; rfl⟩))
          exact hp.elim
        · refine z_iconstB F true dX7_knot_98 rfl ?_
          refine z_goto F (tgt := 103) dX7_knot_99 (by decide) ?_
          refine z_iconst F (nI 4) dX7_knot_103 rfl ?_
          refine z_callVH F (c_want_t 4) 2 rfl (lw_V q678 q680 qs8 q125 q681) (by decide +kernel) ⟨Nat.le_of_ble_eq_true rfl, Nat.le_of_ble_eq_true rfl⟩ ⟨by omega, by omega⟩ [0, 22] 26 ⟨rfl, rfl, rfl, ⟨Or.inl rfl, Or.inl rfl, trivial⟩⟩ (fun h => nomatch h) (Nat.le_of_ble_eq_true rfl) ⟨⟨Or.inr trivial, Or.inr rfl, Or.inr trivial, Or.inr trivial, Or.inr trivial, Or.inr trivial, Or.inr trivial, Or.inr trivial, Or.inr trivial, Or.inr trivial, Or.inr trivial, Or.inr trivial, Or.inr trivial, Or.inr trivial, Or.inr trivial, Or.inr trivial, Or.inr trivial, Or.inr trivial, Or.inr trivial, Or.inr trivial, Or.inr trivial, Or.inr trivial, Or.inr rfl, Or.inr trivial, Or.inr rfl, Or.inr trivial, trivial⟩, rfl, rfl, rfl, Nat.le_of_ble_eq_true rfl⟩ rfl zC7 rfl rfl dX7_knot_104 (fun r_104 w_104 hp => ?_) (fun _ _ h => h.elim)
          obtain ⟨rfl, rfl⟩ := hp
          refine z_weq (w' := [zH, zO _ [zr _ _, zr _ _, zr _ _, zr _ _, zr _ _, zi _, zi _, zr _ _, zr _ _], zAi 3 400 _, zH, zH, zH, zH, zH, zH, zH, zH, zH, zH, zH, zH, zH, zH, zH, zH, zH, zH, zH, zO _ [zi _, zr _ _, zi _, zi _, zi _, zi _, zi _, zi _, zr _ _, zi _, zr _ _], zAi 0 12 _, zO _ [zi _, zi _, zr _ _], zAi 0 24 _]) rfl ?_
          refine z_seq (S' := []) rfl ?_
          refine z_iincN F 1 dX7_knot_107 rfl rfl ?_
          refine z_leq (L' := [_, _]) rfl ?_
          refine z_goto F (tgt := 76) dX7_knot_110 (by decide) ?_
          exact ih (k + 1) (by omega) (by omega) (fun q hq => by
            by_cases w : q = k
            · rw [w]; omega
            · exact hne q (by omega))
  refine z_aload_n F dX7_knot_0 rfl ?_
  refine z_aload_n F dX7_knot_1 rfl ?_
  refine z_get F zC7 (f := 3) rfl (Nat.le_of_ble_eq_true rfl) q565 rfl dX7_knot_2 ?_
  refine z_iconst F (nI 2) dX7_knot_5 rfl ?_
  refine z_icmp_neN F (by omega) (by omega) (tgt := 13) dX7_knot_6 (by decide) (fun c_6 => ?_) (fun c_6 => ?_)
  · refine z_iconstB F false dX7_knot_13 rfl ?_
    refine z_iconst F (nI 1) dX7_knot_14 rfl ?_
    refine z_callVH F (c_want_f 1) 2 rfl (lw_V q678 q680 qs8 q125 q681) (by decide +kernel) ⟨Nat.le_of_ble_eq_true rfl, Nat.le_of_ble_eq_true rfl⟩ ⟨by omega, by omega⟩ [0, 22] 26 ⟨rfl, rfl, rfl, ⟨Or.inl rfl, Or.inl rfl, trivial⟩⟩ (fun h => nomatch h) (Nat.le_of_ble_eq_true rfl) ⟨⟨Or.inr trivial, Or.inr rfl, Or.inr trivial, Or.inr trivial, Or.inr trivial, Or.inr trivial, Or.inr trivial, Or.inr trivial, Or.inr trivial, Or.inr trivial, Or.inr trivial, Or.inr trivial, Or.inr trivial, Or.inr trivial, Or.inr trivial, Or.inr trivial, Or.inr trivial, Or.inr trivial, Or.inr trivial, Or.inr trivial, Or.inr trivial, Or.inr trivial, Or.inr rfl, Or.inr trivial, Or.inr rfl, Or.inr trivial, trivial⟩, rfl, rfl, rfl, Nat.le_of_ble_eq_true rfl⟩ rfl zC7 rfl rfl dX7_knot_15 (fun r_15 w_15 hp => ?_) (fun E_ w_ hx => by obtain ⟨rfl, hb, rfl⟩ := hx; exact zx_out F E hno (by omega) (by omega) (⟨rfl, trivial, by rw [n1 c_6]; rfl⟩))
    exact hp.elim
  · refine z_iconstB F true dX7_knot_9 rfl ?_
    refine z_goto F (tgt := 14) dX7_knot_10 (by decide) ?_
    refine z_iconst F (nI 1) dX7_knot_14 rfl ?_
    refine z_callVH F (c_want_t 1) 2 rfl (lw_V q678 q680 qs8 q125 q681) (by decide +kernel) ⟨Nat.le_of_ble_eq_true rfl, Nat.le_of_ble_eq_true rfl⟩ ⟨by omega, by omega⟩ [0, 22] 26 ⟨rfl, rfl, rfl, ⟨Or.inl rfl, Or.inl rfl, trivial⟩⟩ (fun h => nomatch h) (Nat.le_of_ble_eq_true rfl) ⟨⟨Or.inr trivial, Or.inr rfl, Or.inr trivial, Or.inr trivial, Or.inr trivial, Or.inr trivial, Or.inr trivial, Or.inr trivial, Or.inr trivial, Or.inr trivial, Or.inr trivial, Or.inr trivial, Or.inr trivial, Or.inr trivial, Or.inr trivial, Or.inr trivial, Or.inr trivial, Or.inr trivial, Or.inr trivial, Or.inr trivial, Or.inr trivial, Or.inr trivial, Or.inr rfl, Or.inr trivial, Or.inr rfl, Or.inr trivial, trivial⟩, rfl, rfl, rfl, Nat.le_of_ble_eq_true rfl⟩ rfl zC7 rfl rfl dX7_knot_15 (fun r_15 w_15 hp => ?_) (fun _ _ h => h.elim)
    obtain ⟨rfl, rfl⟩ := hp
    refine z_weq (w' := [zH, zO _ [zr _ _, zr _ _, zr _ _, zr _ _, zr _ _, zi _, zi _, zr _ _, zr _ _], zAi 3 400 _, zH, zH, zH, zH, zH, zH, zH, zH, zH, zH, zH, zH, zH, zH, zH, zH, zH, zH, zH, zO _ [zi _, zr _ _, zi _, zi _, zi _, zi _, zi _, zi _, zr _ _, zi _, zr _ _], zAi 0 12 _, zO _ [zi _, zi _, zr _ _], zAi 0 24 _]) rfl ?_
    refine z_seq (S' := []) rfl ?_
    refine z_aload_n F dX7_knot_18 rfl ?_
    refine z_aload_n F dX7_knot_19 rfl ?_
    refine z_get F zC7 (f := 5) rfl (Nat.le_of_ble_eq_true rfl) q568 rfl dX7_knot_20 ?_
    refine z_aload_n F dX7_knot_23 rfl ?_
    refine z_get F zC7 (f := 4) rfl (Nat.le_of_ble_eq_true rfl) q566 rfl dX7_knot_24 ?_
    refine z_isubN F (by omega) dX7_knot_27 ?_
    refine z_iconst F (nI 3) dX7_knot_28 rfl ?_
    refine z_icmp_gtN F (by omega) (by omega) (tgt := 45) dX7_knot_29 (by decide) (fun c_29 => ?_) (fun c_29 => ?_)
    · refine z_iconstB F false dX7_knot_45 rfl ?_
      refine z_iconst F (nI 2) dX7_knot_46 rfl ?_
      refine z_callVH F (c_want_f 2) 2 rfl (lw_V q678 q680 qs8 q125 q681) (by decide +kernel) ⟨Nat.le_of_ble_eq_true rfl, Nat.le_of_ble_eq_true rfl⟩ ⟨by omega, by omega⟩ [0, 22] 26 ⟨rfl, rfl, rfl, ⟨Or.inl rfl, Or.inl rfl, trivial⟩⟩ (fun h => nomatch h) (Nat.le_of_ble_eq_true rfl) ⟨⟨Or.inr trivial, Or.inr rfl, Or.inr trivial, Or.inr trivial, Or.inr trivial, Or.inr trivial, Or.inr trivial, Or.inr trivial, Or.inr trivial, Or.inr trivial, Or.inr trivial, Or.inr trivial, Or.inr trivial, Or.inr trivial, Or.inr trivial, Or.inr trivial, Or.inr trivial, Or.inr trivial, Or.inr trivial, Or.inr trivial, Or.inr trivial, Or.inr trivial, Or.inr rfl, Or.inr trivial, Or.inr rfl, Or.inr trivial, trivial⟩, rfl, rfl, rfl, Nat.le_of_ble_eq_true rfl⟩ rfl zC7 rfl rfl dX7_knot_47 (fun r_47 w_47 hp => ?_) (fun E_ w_ hx => by obtain ⟨rfl, hb, rfl⟩ := hx; exact zx_out F E hno (by omega) (by omega) (⟨rfl, trivial, by rw [n2 (by omega) (Or.inl (by omega))]; rfl⟩))
      exact hp.elim
    · refine z_aload_n F dX7_knot_32 rfl ?_
      refine z_get F zC7 (f := 7) rfl (Nat.le_of_ble_eq_true rfl) q570 rfl dX7_knot_33 ?_
      refine z_bipush F (nI 12) dX7_knot_36 rfl ?_
      refine z_icmp_geN F (by omega) (by omega) (tgt := 45) dX7_knot_38 (by decide) (fun c_38 => ?_) (fun c_38 => ?_)
      · refine z_iconstB F false dX7_knot_45 rfl ?_
        refine z_iconst F (nI 2) dX7_knot_46 rfl ?_
        refine z_callVH F (c_want_f 2) 2 rfl (lw_V q678 q680 qs8 q125 q681) (by decide +kernel) ⟨Nat.le_of_ble_eq_true rfl, Nat.le_of_ble_eq_true rfl⟩ ⟨by omega, by omega⟩ [0, 22] 26 ⟨rfl, rfl, rfl, ⟨Or.inl rfl, Or.inl rfl, trivial⟩⟩ (fun h => nomatch h) (Nat.le_of_ble_eq_true rfl) ⟨⟨Or.inr trivial, Or.inr rfl, Or.inr trivial, Or.inr trivial, Or.inr trivial, Or.inr trivial, Or.inr trivial, Or.inr trivial, Or.inr trivial, Or.inr trivial, Or.inr trivial, Or.inr trivial, Or.inr trivial, Or.inr trivial, Or.inr trivial, Or.inr trivial, Or.inr trivial, Or.inr trivial, Or.inr trivial, Or.inr trivial, Or.inr trivial, Or.inr trivial, Or.inr rfl, Or.inr trivial, Or.inr rfl, Or.inr trivial, trivial⟩, rfl, rfl, rfl, Nat.le_of_ble_eq_true rfl⟩ rfl zC7 rfl rfl dX7_knot_47 (fun r_47 w_47 hp => ?_) (fun E_ w_ hx => by obtain ⟨rfl, hb, rfl⟩ := hx; exact zx_out F E hno (by omega) (by omega) (⟨rfl, trivial, by rw [n2 (by omega) (Or.inr (by omega))]; rfl⟩))
        exact hp.elim
      · refine z_iconstB F true dX7_knot_41 rfl ?_
        refine z_goto F (tgt := 46) dX7_knot_42 (by decide) ?_
        refine z_iconst F (nI 2) dX7_knot_46 rfl ?_
        refine z_callVH F (c_want_t 2) 2 rfl (lw_V q678 q680 qs8 q125 q681) (by decide +kernel) ⟨Nat.le_of_ble_eq_true rfl, Nat.le_of_ble_eq_true rfl⟩ ⟨by omega, by omega⟩ [0, 22] 26 ⟨rfl, rfl, rfl, ⟨Or.inl rfl, Or.inl rfl, trivial⟩⟩ (fun h => nomatch h) (Nat.le_of_ble_eq_true rfl) ⟨⟨Or.inr trivial, Or.inr rfl, Or.inr trivial, Or.inr trivial, Or.inr trivial, Or.inr trivial, Or.inr trivial, Or.inr trivial, Or.inr trivial, Or.inr trivial, Or.inr trivial, Or.inr trivial, Or.inr trivial, Or.inr trivial, Or.inr trivial, Or.inr trivial, Or.inr trivial, Or.inr trivial, Or.inr trivial, Or.inr trivial, Or.inr trivial, Or.inr trivial, Or.inr rfl, Or.inr trivial, Or.inr rfl, Or.inr trivial, trivial⟩, rfl, rfl, rfl, Nat.le_of_ble_eq_true rfl⟩ rfl zC7 rfl rfl dX7_knot_47 (fun r_47 w_47 hp => ?_) (fun _ _ h => h.elim)
        obtain ⟨rfl, rfl⟩ := hp
        refine z_weq (w' := [zH, zO _ [zr _ _, zr _ _, zr _ _, zr _ _, zr _ _, zi _, zi _, zr _ _, zr _ _], zAi 3 400 _, zH, zH, zH, zH, zH, zH, zH, zH, zH, zH, zH, zH, zH, zH, zH, zH, zH, zH, zH, zO _ [zi _, zr _ _, zi _, zi _, zi _, zi _, zi _, zi _, zr _ _, zi _, zr _ _], zAi 0 12 _, zO _ [zi _, zi _, zr _ _], zAi 0 24 _]) rfl ?_
        refine z_seq (S' := []) rfl ?_
        refine z_aload_n F dX7_knot_50 rfl ?_
        refine z_aload_n F dX7_knot_51 rfl ?_
        refine z_get F zC7 (f := 6) rfl (Nat.le_of_ble_eq_true rfl) q569 rfl dX7_knot_52 ?_
        refine z_aload_n F dX7_knot_55 rfl ?_
        refine z_get F zC7 (f := 8) rfl (Nat.le_of_ble_eq_true rfl) q571 rfl dX7_knot_56 ?_
        refine z_getN F zC5 (f := 0) rfl (Nat.le_of_ble_eq_true rfl) q246 rfl dX7_knot_59 ?_
        refine z_icmp_geN F (by omega) (by omega) (tgt := 69) dX7_knot_62 (by decide) (fun c_62 => ?_) (fun c_62 => ?_)
        · have e := hr (by omega) (by omega)
          refine z_iconstB F false dX7_knot_69 rfl ?_
          refine z_iconst F (nI 3) dX7_knot_70 rfl ?_
          refine z_callVH F (c_want_f 3) 2 rfl (lw_V q678 q680 qs8 q125 q681) (by decide +kernel) ⟨Nat.le_of_ble_eq_true rfl, Nat.le_of_ble_eq_true rfl⟩ ⟨by omega, by omega⟩ [0, 22] 26 ⟨rfl, rfl, rfl, ⟨Or.inl rfl, Or.inl rfl, trivial⟩⟩ (fun h => nomatch h) (Nat.le_of_ble_eq_true rfl) ⟨⟨Or.inr trivial, Or.inr rfl, Or.inr trivial, Or.inr trivial, Or.inr trivial, Or.inr trivial, Or.inr trivial, Or.inr trivial, Or.inr trivial, Or.inr trivial, Or.inr trivial, Or.inr trivial, Or.inr trivial, Or.inr trivial, Or.inr trivial, Or.inr trivial, Or.inr trivial, Or.inr trivial, Or.inr trivial, Or.inr trivial, Or.inr trivial, Or.inr trivial, Or.inr rfl, Or.inr trivial, Or.inr rfl, Or.inr trivial, trivial⟩, rfl, rfl, rfl, Nat.le_of_ble_eq_true rfl⟩ rfl zC7 rfl rfl dX7_knot_71 (fun r_71 w_71 hp => ?_) (fun E_ w_ hx => by obtain ⟨rfl, hb, rfl⟩ := hx; exact zx_out F E hno (by omega) (by omega) (⟨rfl, trivial, by rw [n3 (by omega) (fun q => by omega) (by omega)]; rfl⟩))
          exact hp.elim
        · have e := hr (by omega) (by omega)
          obtain ⟨n5, n6⟩ := n4 (by omega) (fun q => by omega) (by omega)
          refine z_iconstB F true dX7_knot_65 rfl ?_
          refine z_goto F (tgt := 70) dX7_knot_66 (by decide) ?_
          refine z_iconst F (nI 3) dX7_knot_70 rfl ?_
          refine z_callVH F (c_want_t 3) 2 rfl (lw_V q678 q680 qs8 q125 q681) (by decide +kernel) ⟨Nat.le_of_ble_eq_true rfl, Nat.le_of_ble_eq_true rfl⟩ ⟨by omega, by omega⟩ [0, 22] 26 ⟨rfl, rfl, rfl, ⟨Or.inl rfl, Or.inl rfl, trivial⟩⟩ (fun h => nomatch h) (Nat.le_of_ble_eq_true rfl) ⟨⟨Or.inr trivial, Or.inr rfl, Or.inr trivial, Or.inr trivial, Or.inr trivial, Or.inr trivial, Or.inr trivial, Or.inr trivial, Or.inr trivial, Or.inr trivial, Or.inr trivial, Or.inr trivial, Or.inr trivial, Or.inr trivial, Or.inr trivial, Or.inr trivial, Or.inr trivial, Or.inr trivial, Or.inr trivial, Or.inr trivial, Or.inr trivial, Or.inr trivial, Or.inr rfl, Or.inr trivial, Or.inr rfl, Or.inr trivial, trivial⟩, rfl, rfl, rfl, Nat.le_of_ble_eq_true rfl⟩ rfl zC7 rfl rfl dX7_knot_71 (fun r_71 w_71 hp => ?_) (fun _ _ h => h.elim)
          obtain ⟨rfl, rfl⟩ := hp
          refine z_weq (w' := [zH, zO _ [zr _ _, zr _ _, zr _ _, zr _ _, zr _ _, zi _, zi _, zr _ _, zr _ _], zAi 3 400 _, zH, zH, zH, zH, zH, zH, zH, zH, zH, zH, zH, zH, zH, zH, zH, zH, zH, zH, zH, zO _ [zi _, zr _ _, zi _, zi _, zi _, zi _, zi _, zi _, zr _ _, zi _, zr _ _], zAi 0 12 _, zO _ [zi _, zi _, zr _ _], zAi 0 24 _]) rfl ?_
          refine z_seq (S' := []) rfl ?_
          refine z_iconst F (nI 0) dX7_knot_74 rfl ?_
          refine z_istore_n F dX7_knot_75 (Nat.le_of_ble_eq_true rfl) ?_
          refine z_leq (L' := [_, _]) rfl ?_
          exact lp n5 (by rw [e]; exact n6) (m + 1) 0 (by omega) (by omega) (fun q hq => absurd hq (by omega))
theorem c_join_t (t : Nat) (fp : Int32) (T : Nat → Int32) (n d : Nat) (f g : Nat → Int32) (z a k b e u m c x y : Nat) (hx : x < 24) (hy : y < 24) (hd : d < 9) (h1 : bt (f x) y = false) (h2 : mayJ f d x y = true) : zCtr yX7_join cX7_join 3 none 5 0 0 [zr 22 0, zi (nI x), zi (nI y)] (rWB t fp T n d f g z a k b e u m c) (fun r w => r = none ∧ w = (rWB t fp T n d (jn f x y) g z a k b e u m c)) zNx := by
  refine z_start (by decide) [some (zr 22 0), some (zi (nI x)), some (zi (nI y))] rfl (fun _ => Nat.le_of_ble_eq_true rfl) (fun _ => rfl) (fun X F E hno hin => ?_)
  refine z_aload_n F dX7_join_0 rfl ?_
  refine z_aload_n F dX7_join_1 rfl ?_
  refine z_get F zC7 (f := 8) rfl (Nat.le_of_ble_eq_true rfl) q571 rfl dX7_join_2 ?_
  refine z_iload_n F dX7_join_5 rfl ?_
  refine z_iload_n F dX7_join_6 rfl ?_
  refine z_callV F (c_has (nI n) (nI d) f x y hx hy) 2 rfl (lw_V q730 q508 q509 q116 q510) (by decide +kernel) ⟨Nat.le_of_ble_eq_true rfl, Nat.le_of_ble_eq_true rfl⟩ ⟨by omega, by omega⟩ [0, 24, 25] 26 ⟨rfl, rfl, rfl, ⟨Or.inl rfl, Or.inr rfl, Or.inr rfl, trivial⟩⟩ (fun h => nomatch h) (Nat.le_of_ble_eq_true rfl) ⟨⟨Or.inr trivial, Or.inr rfl, Or.inr trivial, Or.inr trivial, Or.inr trivial, Or.inr trivial, Or.inr trivial, Or.inr trivial, Or.inr trivial, Or.inr trivial, Or.inr trivial, Or.inr trivial, Or.inr trivial, Or.inr trivial, Or.inr trivial, Or.inr trivial, Or.inr trivial, Or.inr trivial, Or.inr trivial, Or.inr trivial, Or.inr trivial, Or.inr trivial, Or.inr rfl, Or.inr trivial, Or.inl rfl, Or.inl rfl, trivial⟩, rfl, rfl, rfl, Nat.le_of_ble_eq_true rfl⟩ rfl zC5 rfl rfl dX7_join_7 (fun r_7 w_7 hp => ?_) (fun _ _ h => h.elim)
  obtain ⟨rfl, rfl⟩ := hp
  refine z_weq (w' := [zH, zO _ [zr _ _, zr _ _, zr _ _, zr _ _, zr _ _, zi _, zi _, zr _ _, zr _ _], zAi 3 400 _, zH, zH, zH, zH, zH, zH, zH, zH, zH, zH, zH, zH, zH, zH, zH, zH, zH, zH, zH, zO _ [zi _, zr _ _, zi _, zi _, zi _, zi _, zi _, zi _, zr _ _, zi _, zr _ _], zAi 0 12 _, zO _ [zi _, zi _, zr _ _], zAi 0 24 _]) rfl ?_
  refine z_seq (S' := zi _ :: _) rfl ?_
  refine z_if_neB F (tgt := 17) dX7_join_10 (by decide) (fun c_10 => ?_) (fun c_10 => ?_)
  · rw [h1] at c_10; cases c_10
  · refine z_iconstB F true dX7_join_13 rfl ?_
    refine z_goto F (tgt := 18) dX7_join_14 (by decide) ?_
    refine z_iconst F (nI 5) dX7_join_18 rfl ?_
    refine z_callVH F (c_want_t 5) 2 rfl (lw_V q678 q680 qs8 q125 q681) (by decide +kernel) ⟨Nat.le_of_ble_eq_true rfl, Nat.le_of_ble_eq_true rfl⟩ ⟨by omega, by omega⟩ [0, 22] 26 ⟨rfl, rfl, rfl, ⟨Or.inl rfl, Or.inl rfl, trivial⟩⟩ (fun h => nomatch h) (Nat.le_of_ble_eq_true rfl) ⟨⟨Or.inr trivial, Or.inr rfl, Or.inr trivial, Or.inr trivial, Or.inr trivial, Or.inr trivial, Or.inr trivial, Or.inr trivial, Or.inr trivial, Or.inr trivial, Or.inr trivial, Or.inr trivial, Or.inr trivial, Or.inr trivial, Or.inr trivial, Or.inr trivial, Or.inr trivial, Or.inr trivial, Or.inr trivial, Or.inr trivial, Or.inr trivial, Or.inr trivial, Or.inr rfl, Or.inr trivial, Or.inr rfl, Or.inr trivial, trivial⟩, rfl, rfl, rfl, Nat.le_of_ble_eq_true rfl⟩ rfl zC7 rfl rfl dX7_join_19 (fun r_19 w_19 hp => ?_) (fun _ _ h => h.elim)
    obtain ⟨rfl, rfl⟩ := hp
    refine z_weq (w' := [zH, zO _ [zr _ _, zr _ _, zr _ _, zr _ _, zr _ _, zi _, zi _, zr _ _, zr _ _], zAi 3 400 _, zH, zH, zH, zH, zH, zH, zH, zH, zH, zH, zH, zH, zH, zH, zH, zH, zH, zH, zH, zO _ [zi _, zr _ _, zi _, zi _, zi _, zi _, zi _, zi _, zr _ _, zi _, zr _ _], zAi 0 12 _, zO _ [zi _, zi _, zr _ _], zAi 0 24 _]) rfl ?_
    refine z_seq (S' := []) rfl ?_
    refine z_aload_n F dX7_join_22 rfl ?_
    refine z_aload_n F dX7_join_23 rfl ?_
    refine z_get F zC7 (f := 8) rfl (Nat.le_of_ble_eq_true rfl) q571 rfl dX7_join_24 ?_
    refine z_iload_n F dX7_join_27 rfl ?_
    refine z_iload_n F dX7_join_28 rfl ?_
    refine z_callV F (c_mayJoin (nI n) d f x y hx hy hd) 2 rfl (lw_V q736 q504 q505 q116 q506) (by decide +kernel) ⟨Nat.le_of_ble_eq_true rfl, Nat.le_of_ble_eq_true rfl⟩ ⟨by omega, by omega⟩ [0, 24, 25] 26 ⟨rfl, rfl, rfl, ⟨Or.inl rfl, Or.inr rfl, Or.inr rfl, trivial⟩⟩ (fun h => nomatch h) (Nat.le_of_ble_eq_true rfl) ⟨⟨Or.inr trivial, Or.inr rfl, Or.inr trivial, Or.inr trivial, Or.inr trivial, Or.inr trivial, Or.inr trivial, Or.inr trivial, Or.inr trivial, Or.inr trivial, Or.inr trivial, Or.inr trivial, Or.inr trivial, Or.inr trivial, Or.inr trivial, Or.inr trivial, Or.inr trivial, Or.inr trivial, Or.inr trivial, Or.inr trivial, Or.inr trivial, Or.inr trivial, Or.inr rfl, Or.inr trivial, Or.inl rfl, Or.inl rfl, trivial⟩, rfl, rfl, rfl, Nat.le_of_ble_eq_true rfl⟩ rfl zC5 rfl rfl dX7_join_29 (fun r_29 w_29 hp => ?_) (fun _ _ h => h.elim)
    obtain ⟨rfl, rfl⟩ := hp
    rw [h2]
    refine z_weq (w' := [zH, zO _ [zr _ _, zr _ _, zr _ _, zr _ _, zr _ _, zi _, zi _, zr _ _, zr _ _], zAi 3 400 _, zH, zH, zH, zH, zH, zH, zH, zH, zH, zH, zH, zH, zH, zH, zH, zH, zH, zH, zH, zO _ [zi _, zr _ _, zi _, zi _, zi _, zi _, zi _, zi _, zr _ _, zi _, zr _ _], zAi 0 12 _, zO _ [zi _, zi _, zr _ _], zAi 0 24 _]) rfl ?_
    refine z_seq (S' := zi _ :: _) rfl ?_
    refine z_bipush F (nI 6) dX7_join_32 rfl ?_
    refine z_callVH F (c_want_t 6) 2 rfl (lw_V q678 q680 qs8 q125 q681) (by decide +kernel) ⟨Nat.le_of_ble_eq_true rfl, Nat.le_of_ble_eq_true rfl⟩ ⟨by omega, by omega⟩ [0, 22] 26 ⟨rfl, rfl, rfl, ⟨Or.inl rfl, Or.inl rfl, trivial⟩⟩ (fun h => nomatch h) (Nat.le_of_ble_eq_true rfl) ⟨⟨Or.inr trivial, Or.inr rfl, Or.inr trivial, Or.inr trivial, Or.inr trivial, Or.inr trivial, Or.inr trivial, Or.inr trivial, Or.inr trivial, Or.inr trivial, Or.inr trivial, Or.inr trivial, Or.inr trivial, Or.inr trivial, Or.inr trivial, Or.inr trivial, Or.inr trivial, Or.inr trivial, Or.inr trivial, Or.inr trivial, Or.inr trivial, Or.inr trivial, Or.inr rfl, Or.inr trivial, Or.inr rfl, Or.inr trivial, trivial⟩, rfl, rfl, rfl, Nat.le_of_ble_eq_true rfl⟩ rfl zC7 rfl rfl dX7_join_34 (fun r_34 w_34 hp => ?_) (fun _ _ h => h.elim)
    obtain ⟨rfl, rfl⟩ := hp
    refine z_weq (w' := [zH, zO _ [zr _ _, zr _ _, zr _ _, zr _ _, zr _ _, zi _, zi _, zr _ _, zr _ _], zAi 3 400 _, zH, zH, zH, zH, zH, zH, zH, zH, zH, zH, zH, zH, zH, zH, zH, zH, zH, zH, zH, zO _ [zi _, zr _ _, zi _, zi _, zi _, zi _, zi _, zi _, zr _ _, zi _, zr _ _], zAi 0 12 _, zO _ [zi _, zi _, zr _ _], zAi 0 24 _]) rfl ?_
    refine z_seq (S' := []) rfl ?_
    refine z_aload_n F dX7_join_37 rfl ?_
    refine z_get F zC7 (f := 8) rfl (Nat.le_of_ble_eq_true rfl) q571 rfl dX7_join_38 ?_
    refine z_iload_n F dX7_join_41 rfl ?_
    refine z_iload_n F dX7_join_42 rfl ?_
    refine z_callV F (c_setj (nI n) (nI d) f x y hx hy) 2 rfl (lw_V q737 q418 q419 q116 q420) (by decide +kernel) ⟨Nat.le_of_ble_eq_true rfl, Nat.le_of_ble_eq_true rfl⟩ ⟨by omega, by omega⟩ [0, 24, 25] 26 ⟨rfl, rfl, rfl, ⟨Or.inl rfl, Or.inr rfl, Or.inr rfl, trivial⟩⟩ (fun h => nomatch h) (Nat.le_of_ble_eq_true rfl) ⟨⟨Or.inr trivial, Or.inr rfl, Or.inr trivial, Or.inr trivial, Or.inr trivial, Or.inr trivial, Or.inr trivial, Or.inr trivial, Or.inr trivial, Or.inr trivial, Or.inr trivial, Or.inr trivial, Or.inr trivial, Or.inr trivial, Or.inr trivial, Or.inr trivial, Or.inr trivial, Or.inr trivial, Or.inr trivial, Or.inr trivial, Or.inr trivial, Or.inr trivial, Or.inr rfl, Or.inr trivial, Or.inl rfl, Or.inl rfl, trivial⟩, rfl, rfl, rfl, Nat.le_of_ble_eq_true rfl⟩ rfl zC5 rfl rfl dX7_join_43 (fun r_43 w_43 hp => ?_) (fun _ _ h => h.elim)
    obtain ⟨rfl, rfl⟩ := hp
    refine z_weq (w' := [zH, zO _ [zr _ _, zr _ _, zr _ _, zr _ _, zr _ _, zi _, zi _, zr _ _, zr _ _], zAi 3 400 _, zH, zH, zH, zH, zH, zH, zH, zH, zH, zH, zH, zH, zH, zH, zH, zH, zH, zH, zH, zO _ [zi _, zr _ _, zi _, zi _, zi _, zi _, zi _, zi _, zr _ _, zi _, zr _ _], zAi 0 12 _, zO _ [zi _, zi _, zr _ _], zAi 0 24 _]) rfl ?_
    refine z_seq (S' := []) rfl ?_
    exact z_vret F E rfl dX7_join_46 (by omega) (by omega) (⟨rfl, rfl⟩)
theorem c_join_5 (t : Nat) (fp : Int32) (T : Nat → Int32) (n d : Nat) (f g : Nat → Int32) (z a k b e u m c x y : Nat) (hx : x < 24) (hy : y < 24) (hd : d < 9) (h1 : bt (f x) y = true) : zCtr yX7_join cX7_join 3 none 5 1 7 [zr 22 0, zi (nI x), zi (nI y)] (rWB t fp T n d f g z a k b e u m c) (fun r w => False) (fun E w => E = eWrg ∧ True ∧ w = (rWB t fp T n d f g z a k b e u m c) ++ [eWr (5)]) := by
  refine z_start (by decide) [some (zr 22 0), some (zi (nI x)), some (zi (nI y))] rfl (fun _ => Nat.le_of_ble_eq_true rfl) (fun _ => rfl) (fun X F E hno hin => ?_)
  refine z_aload_n F dX7_join_0 rfl ?_
  refine z_aload_n F dX7_join_1 rfl ?_
  refine z_get F zC7 (f := 8) rfl (Nat.le_of_ble_eq_true rfl) q571 rfl dX7_join_2 ?_
  refine z_iload_n F dX7_join_5 rfl ?_
  refine z_iload_n F dX7_join_6 rfl ?_
  refine z_callV F (c_has (nI n) (nI d) f x y hx hy) 2 rfl (lw_V q730 q508 q509 q116 q510) (by decide +kernel) ⟨Nat.le_of_ble_eq_true rfl, Nat.le_of_ble_eq_true rfl⟩ ⟨by omega, by omega⟩ [0, 24, 25] 26 ⟨rfl, rfl, rfl, ⟨Or.inl rfl, Or.inr rfl, Or.inr rfl, trivial⟩⟩ (fun h => nomatch h) (Nat.le_of_ble_eq_true rfl) ⟨⟨Or.inr trivial, Or.inr rfl, Or.inr trivial, Or.inr trivial, Or.inr trivial, Or.inr trivial, Or.inr trivial, Or.inr trivial, Or.inr trivial, Or.inr trivial, Or.inr trivial, Or.inr trivial, Or.inr trivial, Or.inr trivial, Or.inr trivial, Or.inr trivial, Or.inr trivial, Or.inr trivial, Or.inr trivial, Or.inr trivial, Or.inr trivial, Or.inr trivial, Or.inr rfl, Or.inr trivial, Or.inl rfl, Or.inl rfl, trivial⟩, rfl, rfl, rfl, Nat.le_of_ble_eq_true rfl⟩ rfl zC5 rfl rfl dX7_join_7 (fun r_7 w_7 hp => ?_) (fun _ _ h => h.elim)
  obtain ⟨rfl, rfl⟩ := hp
  refine z_weq (w' := [zH, zO _ [zr _ _, zr _ _, zr _ _, zr _ _, zr _ _, zi _, zi _, zr _ _, zr _ _], zAi 3 400 _, zH, zH, zH, zH, zH, zH, zH, zH, zH, zH, zH, zH, zH, zH, zH, zH, zH, zH, zH, zO _ [zi _, zr _ _, zi _, zi _, zi _, zi _, zi _, zi _, zr _ _, zi _, zr _ _], zAi 0 12 _, zO _ [zi _, zi _, zr _ _], zAi 0 24 _]) rfl ?_
  refine z_seq (S' := zi _ :: _) rfl ?_
  refine z_if_neB F (tgt := 17) dX7_join_10 (by decide) (fun c_10 => ?_) (fun c_10 => ?_)
  · refine z_iconstB F false dX7_join_17 rfl ?_
    refine z_iconst F (nI 5) dX7_join_18 rfl ?_
    refine z_callVH F (c_want_f 5) 2 rfl (lw_V q678 q680 qs8 q125 q681) (by decide +kernel) ⟨Nat.le_of_ble_eq_true rfl, Nat.le_of_ble_eq_true rfl⟩ ⟨by omega, by omega⟩ [0, 22] 26 ⟨rfl, rfl, rfl, ⟨Or.inl rfl, Or.inl rfl, trivial⟩⟩ (fun h => nomatch h) (Nat.le_of_ble_eq_true rfl) ⟨⟨Or.inr trivial, Or.inr rfl, Or.inr trivial, Or.inr trivial, Or.inr trivial, Or.inr trivial, Or.inr trivial, Or.inr trivial, Or.inr trivial, Or.inr trivial, Or.inr trivial, Or.inr trivial, Or.inr trivial, Or.inr trivial, Or.inr trivial, Or.inr trivial, Or.inr trivial, Or.inr trivial, Or.inr trivial, Or.inr trivial, Or.inr trivial, Or.inr trivial, Or.inr rfl, Or.inr trivial, Or.inr rfl, Or.inr trivial, trivial⟩, rfl, rfl, rfl, Nat.le_of_ble_eq_true rfl⟩ rfl zC7 rfl rfl dX7_join_19 (fun r_19 w_19 hp => ?_) (fun E_ w_ hx => by obtain ⟨rfl, hb, rfl⟩ := hx; exact zx_out F E hno (by omega) (by omega) (⟨rfl, trivial, rfl⟩))
    exact hp.elim
  · rw [h1] at c_10; cases c_10
theorem c_join_6 (t : Nat) (fp : Int32) (T : Nat → Int32) (n d : Nat) (f g : Nat → Int32) (z a k b e u m c x y : Nat) (hx : x < 24) (hy : y < 24) (hd : d < 9) (h1 : bt (f x) y = false) (h2 : mayJ f d x y = false) : zCtr yX7_join cX7_join 3 none 5 1 7 [zr 22 0, zi (nI x), zi (nI y)] (rWB t fp T n d f g z a k b e u m c) (fun r w => False) (fun E w => E = eWrg ∧ True ∧ w = (rWB t fp T n d f g z a k b e u m c) ++ [eWr (6)]) := by
  refine z_start (by decide) [some (zr 22 0), some (zi (nI x)), some (zi (nI y))] rfl (fun _ => Nat.le_of_ble_eq_true rfl) (fun _ => rfl) (fun X F E hno hin => ?_)
  refine z_aload_n F dX7_join_0 rfl ?_
  refine z_aload_n F dX7_join_1 rfl ?_
  refine z_get F zC7 (f := 8) rfl (Nat.le_of_ble_eq_true rfl) q571 rfl dX7_join_2 ?_
  refine z_iload_n F dX7_join_5 rfl ?_
  refine z_iload_n F dX7_join_6 rfl ?_
  refine z_callV F (c_has (nI n) (nI d) f x y hx hy) 2 rfl (lw_V q730 q508 q509 q116 q510) (by decide +kernel) ⟨Nat.le_of_ble_eq_true rfl, Nat.le_of_ble_eq_true rfl⟩ ⟨by omega, by omega⟩ [0, 24, 25] 26 ⟨rfl, rfl, rfl, ⟨Or.inl rfl, Or.inr rfl, Or.inr rfl, trivial⟩⟩ (fun h => nomatch h) (Nat.le_of_ble_eq_true rfl) ⟨⟨Or.inr trivial, Or.inr rfl, Or.inr trivial, Or.inr trivial, Or.inr trivial, Or.inr trivial, Or.inr trivial, Or.inr trivial, Or.inr trivial, Or.inr trivial, Or.inr trivial, Or.inr trivial, Or.inr trivial, Or.inr trivial, Or.inr trivial, Or.inr trivial, Or.inr trivial, Or.inr trivial, Or.inr trivial, Or.inr trivial, Or.inr trivial, Or.inr trivial, Or.inr rfl, Or.inr trivial, Or.inl rfl, Or.inl rfl, trivial⟩, rfl, rfl, rfl, Nat.le_of_ble_eq_true rfl⟩ rfl zC5 rfl rfl dX7_join_7 (fun r_7 w_7 hp => ?_) (fun _ _ h => h.elim)
  obtain ⟨rfl, rfl⟩ := hp
  refine z_weq (w' := [zH, zO _ [zr _ _, zr _ _, zr _ _, zr _ _, zr _ _, zi _, zi _, zr _ _, zr _ _], zAi 3 400 _, zH, zH, zH, zH, zH, zH, zH, zH, zH, zH, zH, zH, zH, zH, zH, zH, zH, zH, zH, zO _ [zi _, zr _ _, zi _, zi _, zi _, zi _, zi _, zi _, zr _ _, zi _, zr _ _], zAi 0 12 _, zO _ [zi _, zi _, zr _ _], zAi 0 24 _]) rfl ?_
  refine z_seq (S' := zi _ :: _) rfl ?_
  refine z_if_neB F (tgt := 17) dX7_join_10 (by decide) (fun c_10 => ?_) (fun c_10 => ?_)
  · rw [h1] at c_10; cases c_10
  · refine z_iconstB F true dX7_join_13 rfl ?_
    refine z_goto F (tgt := 18) dX7_join_14 (by decide) ?_
    refine z_iconst F (nI 5) dX7_join_18 rfl ?_
    refine z_callVH F (c_want_t 5) 2 rfl (lw_V q678 q680 qs8 q125 q681) (by decide +kernel) ⟨Nat.le_of_ble_eq_true rfl, Nat.le_of_ble_eq_true rfl⟩ ⟨by omega, by omega⟩ [0, 22] 26 ⟨rfl, rfl, rfl, ⟨Or.inl rfl, Or.inl rfl, trivial⟩⟩ (fun h => nomatch h) (Nat.le_of_ble_eq_true rfl) ⟨⟨Or.inr trivial, Or.inr rfl, Or.inr trivial, Or.inr trivial, Or.inr trivial, Or.inr trivial, Or.inr trivial, Or.inr trivial, Or.inr trivial, Or.inr trivial, Or.inr trivial, Or.inr trivial, Or.inr trivial, Or.inr trivial, Or.inr trivial, Or.inr trivial, Or.inr trivial, Or.inr trivial, Or.inr trivial, Or.inr trivial, Or.inr trivial, Or.inr trivial, Or.inr rfl, Or.inr trivial, Or.inr rfl, Or.inr trivial, trivial⟩, rfl, rfl, rfl, Nat.le_of_ble_eq_true rfl⟩ rfl zC7 rfl rfl dX7_join_19 (fun r_19 w_19 hp => ?_) (fun _ _ h => h.elim)
    obtain ⟨rfl, rfl⟩ := hp
    refine z_weq (w' := [zH, zO _ [zr _ _, zr _ _, zr _ _, zr _ _, zr _ _, zi _, zi _, zr _ _, zr _ _], zAi 3 400 _, zH, zH, zH, zH, zH, zH, zH, zH, zH, zH, zH, zH, zH, zH, zH, zH, zH, zH, zH, zO _ [zi _, zr _ _, zi _, zi _, zi _, zi _, zi _, zi _, zr _ _, zi _, zr _ _], zAi 0 12 _, zO _ [zi _, zi _, zr _ _], zAi 0 24 _]) rfl ?_
    refine z_seq (S' := []) rfl ?_
    refine z_aload_n F dX7_join_22 rfl ?_
    refine z_aload_n F dX7_join_23 rfl ?_
    refine z_get F zC7 (f := 8) rfl (Nat.le_of_ble_eq_true rfl) q571 rfl dX7_join_24 ?_
    refine z_iload_n F dX7_join_27 rfl ?_
    refine z_iload_n F dX7_join_28 rfl ?_
    refine z_callV F (c_mayJoin (nI n) d f x y hx hy hd) 2 rfl (lw_V q736 q504 q505 q116 q506) (by decide +kernel) ⟨Nat.le_of_ble_eq_true rfl, Nat.le_of_ble_eq_true rfl⟩ ⟨by omega, by omega⟩ [0, 24, 25] 26 ⟨rfl, rfl, rfl, ⟨Or.inl rfl, Or.inr rfl, Or.inr rfl, trivial⟩⟩ (fun h => nomatch h) (Nat.le_of_ble_eq_true rfl) ⟨⟨Or.inr trivial, Or.inr rfl, Or.inr trivial, Or.inr trivial, Or.inr trivial, Or.inr trivial, Or.inr trivial, Or.inr trivial, Or.inr trivial, Or.inr trivial, Or.inr trivial, Or.inr trivial, Or.inr trivial, Or.inr trivial, Or.inr trivial, Or.inr trivial, Or.inr trivial, Or.inr trivial, Or.inr trivial, Or.inr trivial, Or.inr trivial, Or.inr trivial, Or.inr rfl, Or.inr trivial, Or.inl rfl, Or.inl rfl, trivial⟩, rfl, rfl, rfl, Nat.le_of_ble_eq_true rfl⟩ rfl zC5 rfl rfl dX7_join_29 (fun r_29 w_29 hp => ?_) (fun _ _ h => h.elim)
    obtain ⟨rfl, rfl⟩ := hp
    rw [h2]
    refine z_weq (w' := [zH, zO _ [zr _ _, zr _ _, zr _ _, zr _ _, zr _ _, zi _, zi _, zr _ _, zr _ _], zAi 3 400 _, zH, zH, zH, zH, zH, zH, zH, zH, zH, zH, zH, zH, zH, zH, zH, zH, zH, zH, zH, zO _ [zi _, zr _ _, zi _, zi _, zi _, zi _, zi _, zi _, zr _ _, zi _, zr _ _], zAi 0 12 _, zO _ [zi _, zi _, zr _ _], zAi 0 24 _]) rfl ?_
    refine z_seq (S' := zi _ :: _) rfl ?_
    refine z_bipush F (nI 6) dX7_join_32 rfl ?_
    refine z_callVH F (c_want_f 6) 2 rfl (lw_V q678 q680 qs8 q125 q681) (by decide +kernel) ⟨Nat.le_of_ble_eq_true rfl, Nat.le_of_ble_eq_true rfl⟩ ⟨by omega, by omega⟩ [0, 22] 26 ⟨rfl, rfl, rfl, ⟨Or.inl rfl, Or.inl rfl, trivial⟩⟩ (fun h => nomatch h) (Nat.le_of_ble_eq_true rfl) ⟨⟨Or.inr trivial, Or.inr rfl, Or.inr trivial, Or.inr trivial, Or.inr trivial, Or.inr trivial, Or.inr trivial, Or.inr trivial, Or.inr trivial, Or.inr trivial, Or.inr trivial, Or.inr trivial, Or.inr trivial, Or.inr trivial, Or.inr trivial, Or.inr trivial, Or.inr trivial, Or.inr trivial, Or.inr trivial, Or.inr trivial, Or.inr trivial, Or.inr trivial, Or.inr rfl, Or.inr trivial, Or.inr rfl, Or.inr trivial, trivial⟩, rfl, rfl, rfl, Nat.le_of_ble_eq_true rfl⟩ rfl zC7 rfl rfl dX7_join_34 (fun r_34 w_34 hp => ?_) (fun E_ w_ hx => by obtain ⟨rfl, hb, rfl⟩ := hx; exact zx_out F E hno (by omega) (by omega) (⟨rfl, trivial, rfl⟩))
    exact hp.elim
end CA3
