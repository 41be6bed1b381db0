/-! seek: the reference's operation -/
section C9g
theorem Tg_P {U : Nat → Int32} {most uM : Nat} {Q : Nat → Prop} (hU : ∀ i t, i < uM → bt (U i) t = true → Q t) : ∀ (k u : Nat) (m c : Int32), u + k ≤ uM → (∀ t, bt m t = true → Q t) → Tg U most k u m c → ∀ t, bt c t = true → Q t
  | 0, u, m, c, _, hm, h, t, ht => by
    have e : c = m := h
    rw [e] at ht; exact hm t ht
  | k + 1, u, m, c, hu, hm, h, t, ht => by
    rcases h with h | ⟨_, h⟩
    · exact Tg_P hU k (u + 1) m c (by omega) hm h t ht
    · refine Tg_P hU k (u + 1) (m ||| U u) c (by omega) (fun t ht => ?_) h t ht
      rw [b_or, Bool.or_eq_true] at ht
      exact ht.elim (hm t) (hU u t (by omega))
theorem skC_m {Bs : sBs} {F : Nat → Int32} (h : skC Bs F) : F 42 = skM Bs := by
  rcases Bs with _ | ⟨m, f, s⟩
  · exact h
  · exact h.1
theorem c_mseeks (F0 : Nat → Int32) (G : Nat → Int64) (A : Nat → Nat → Int32) (B : Nat → Nat → Int64) (kd a b most : Nat) (h : grok kd a b) (hm : most < 9) :
    zCtr yX6_seeks cX6_seeks 9 (some .int) 3 0 0 [zr 1 0, zi (nI kd), zi (nI a), zi (nI b), zi (nI most)] [zH, zG F0 G A B] (fun r w => r = some (zi (skR kd a b most)) ∧ ∃ F' A', w = [zH, zG F' G A' B] ∧ frm [38, 39, 40, 41, 42] F0 F' ∧ frm [36, 37, 43, 44] A A') zNx := by
  refine z_start (by decide) [some (zr 1 0), some (zi (nI kd)), some (zi (nI a)), some (zi (nI b)), some (zi (nI most)), none, none, none, none] rfl (fun _ => Nat.le_of_ble_eq_true rfl) (fun _ => rfl) (fun X F E hno hin => ?_)
  have h4 := h.2.2.2.1
  have h0 : 0 < a * b := Nat.mul_pos h.2.1 h.2.2.1
  have hul := skn_le kd a b (a * b)
  have hUd : ∀ i j t, i < skn kd a b (a * b) → j < skn kd a b (a * b) → i ≠ j → bt (sku kd a b (a * b) i) t = true → bt (sku kd a b (a * b) j) t = true → False := fun i j t hi hj hij => sku_dis h hi hj hij
  have hTA : ∀ x, Tg (sku kd a b (a * b)) most (skn kd a b (a * b)) 0 (nI 0) x → ∀ t, bt x t = true → 1 ≤ t ∧ t < a * b := fun x hx => Tg_P (Q := fun t => 1 ≤ t ∧ t < a * b) (fun i t hi ht => sku_low h hi ht) _ 0 (nI 0) x (by omega) (fun t ht => by rw [show bt (nI 0) t = false from b_0 t] at ht; cases ht) hx
  have hgo := isMn_congr (goF_mn (V := skV kd a b) (U := sku kd a b (a * b)) (most := most) (skn kd a b (a * b)) 0 (nI 0) none _ (isMn_none _)) (T' := Tg (sku kd a b (a * b)) most (skn kd a b (a * b)) 0 (nI 0)) (fun x => ⟨fun z => z.elim (fun q => q.elim) id, Or.inr⟩)
  have hend : ∀ Bs, isMn (skV kd a b) (Tg (sku kd a b (a * b)) most (skn kd a b (a * b)) 0 (nI 0)) Bs → skM Bs = skR kd a b most := fun Bs hb => by
    rw [isMn_one (fun x hx => nI_bits (n := a * b) (by omega) (fun i hi => (hTA x hx i hi).2)) hb hgo]; rfl
  -- the search
  have loop : ∀ (m k n : Nat) (c : Int32) (P : Int32 → Prop) (Bs : sBs) (tk : Nat → Nat) (mv : Nat → Int32) (F1 : Nat → Int32) (A1 : Nat → Nat → Int32), skP (skn kd a b (a * b)) k n tk < m → skI (skV kd a b) (sku kd a b (a * b)) (skn kd a b (a * b)) most P Bs c k n tk mv → skC Bs F1 → F1 38 = nI (skn kd a b (a * b)) → frm [38, 39, 40, 41, 42] F0 F1 → frm [36, 37, 43, 44] A A1 → (∀ i, i < skn kd a b (a * b) → A1 36 i = sku kd a b (a * b) i) → (∀ i, i < n → A1 37 i = nI (tk i)) → (∀ s x, s < a * b → x < a * b → A1 43 (24 * s + x) = nI (gth kd a b x s)) →
      Z X [some (zr 1 0), some (zi (nI kd)), some (zi (nI a)), some (zi (nI b)), some (zi (nI most)), some (zi c), some (zi (nI n)), some (zi (nI k)), some (zi (bI true))] [] [zH, zG F1 G A1 B] 0 0 183 := by
    intro m
    induction m with
    | zero => intro k n c P Bs tk mv F1 A1 hm; omega
    | succ m ih =>
      intro k n c P Bs tk mv F1 A1 hm2 hI hC h38 hF hA hc36 hc37 hc43
      have hku : k ≤ skn kd a b (a * b) := hI.2.2.2.2.2.2.2.2.2.2
      have hnk : n ≤ k := hI.2.2.2.2.2.2.2.2.1
      have g36 := fun z => hc36 k z
      have p1 := pc32_le (c ||| sku kd a b (a * b) k)
      have tail : ∀ (c' : Int32), k < skn kd a b (a * b) → pc32 (c ||| sku kd a b (a * b) k) ≤ most → c' = c ||| sku kd a b (a * b) k → Z X [some (zr 1 0), some (zi (nI kd)), some (zi (nI a)), some (zi (nI b)), some (zi (nI most)), some (zi c'), some (zi (nI (n + 1))), some (zi (nI (k + 1))), some (zi (bI true))] [] [zH, zG F1 G (zup2 A1 37 n (nI k)) B] 0 0 252 := by
        intro c' hk ho e
        subst e
        obtain ⟨I2, P2⟩ := hI.push hk ho hUd
        have hcb := hTA _ (I2.2.1 _ (Or.inr rfl))
        refine z_aload_n F dX6_seeks_252 rfl ?_
        refine z_iload F dX6_seeks_253 rfl ?_
        refine z_iload_n F dX6_seeks_255 rfl ?_
        refine z_iload_n F dX6_seeks_256 rfl ?_
        refine z_imulN F dX6_seeks_257 ?_
        refine z_callV F (c_mtries F1 _ (zup2 A1 37 n (nI k)) _ kd a b (HOr.hOr c (sku kd a b (a * b) k)) Bs h hcb (fun s x hs hx => hc43 s x hs hx) hC) 2 rfl (lw_V q1986 q1988 qs80 q117 q1989) (by decide +kernel) ⟨Nat.le_of_ble_eq_true rfl, Nat.le_of_ble_eq_true rfl⟩ ⟨by omega, by omega⟩ [0, 1] 2 ⟨rfl, rfl, rfl, ⟨Or.inl rfl, Or.inr rfl, trivial⟩⟩ (fun h => nomatch h) (Nat.le_of_ble_eq_true rfl) ⟨⟨Or.inr trivial, Or.inl rfl, trivial⟩, rfl, rfl, rfl, Nat.le_of_ble_eq_true rfl⟩ rfl zC6 (zat_G0 rfl) rfl dX6_seeks_258 (fun r_258 w_258 hp => ?_) (fun _ _ h => h.elim)
        obtain ⟨rfl, F2, A2, rfl, f2, f3, f4⟩ := hp
        refine z_weq (w' := [zH, zG _ _ _ _]) rfl ?_
        refine z_seq (S' := []) rfl ?_
        refine z_goto F (tgt := 178) dX6_seeks_261 (by decide) ?_
        refine z_iload F dX6_seeks_178 rfl ?_
        refine z_if_eqB F (tgt := 317) dX6_seeks_180 (by decide) (fun c_180 => ?_) (fun c_180 => ?_)
        · cases c_180
        · refine ih (k + 1) (n + 1) _ _ _ _ _ F2 A2 (by omega) I2 f4 (by rw [f2.at 38 rfl]; exact h38) (hF.tr f2 (by decide) (by decide)) ((frm_zup hA (by decide)).tr f3 (by decide) (by decide)) (fun i hi => by rw [f3.at 36 rfl]; exact hc36 i hi) (fun i hi => ?_) (fun s x hs hx => by rw [f3.at 43 rfl]; exact hc43 s x hs hx)
          rw [f3.at 37 rfl, zup2_row]
          show (if i = n then _ else A1 37 i) = nI (if i = n then k else tk i)
          by_cases q : i = n
          · rw [if_pos q, if_pos q]
          · rw [if_neg q, if_neg q]; exact hc37 i (by omega)
      refine z_iload F dX6_seeks_183 rfl ?_
      refine z_aload_n F dX6_seeks_185 rfl ?_
      refine z_mi F rfl 38 rfl (Nat.le_of_ble_eq_true rfl) rfl q1518 dX6_seeks_186 ?_
      refine z_ieq (h38) ?_
      refine z_icmp_geN F (by omega) (by omega) (tgt := 216) dX6_seeks_189 (by decide) (fun c_189 => ?_) (fun c_189 => ?_)
      · refine z_iload F dX6_seeks_216 rfl ?_
        refine z_aload_n F dX6_seeks_218 rfl ?_
        refine z_mi F rfl 38 rfl (Nat.le_of_ble_eq_true rfl) rfl q1518 dX6_seeks_219 ?_
        refine z_ieq (h38) ?_
        refine z_icmp_geN F (by omega) (by omega) (tgt := 264) dX6_seeks_222 (by decide) (fun c_222 => ?_) (fun c_222 => ?_)
        · refine z_iload F dX6_seeks_264 rfl ?_
          refine z_if_leN F (by omega) (tgt := 273) dX6_seeks_266 (by decide) (fun c_266 => ?_) (fun c_266 => ?_)
          · obtain rfl : n = 0 := by omega
            have hd := hI.done (by omega)
            refine z_iconstB F false dX6_seeks_273 rfl ?_
            refine z_istore F dX6_seeks_274 (Nat.le_of_ble_eq_true rfl) ?_
            refine z_leq (L' := [_, _, _, _, _, _, _, _, _]) rfl ?_
            refine z_iload F dX6_seeks_276 rfl ?_
            refine z_if_eqB F (tgt := 178) dX6_seeks_278 (by decide) (fun c_278 => ?_) (fun c_278 => ?_)
            · refine z_iload F dX6_seeks_178 rfl ?_
              refine z_if_eqB F (tgt := 317) dX6_seeks_180 (by decide) (fun c_180 => ?_) (fun c_180 => ?_)
              · refine z_aload_n F dX6_seeks_317 rfl ?_
                refine z_mi F rfl 42 rfl (Nat.le_of_ble_eq_true rfl) rfl q1522 dX6_seeks_318 ?_
                exact z_iret F E rfl dX6_seeks_321 (by omega) (by omega) (⟨by rw [skC_m hC, hend Bs hd], F1, A1, rfl, hF, hA⟩)
              · cases c_180
            · cases c_278
          · obtain ⟨n', rfl⟩ : ∃ n', n = n' + 1 := ⟨n - 1, by omega⟩
            obtain ⟨I2, P2, e2⟩ := hI.pop (by omega)
            have g37 := hc37 n' (by omega)
            have gtk := (hI.2.2.2.1 n' (by omega)).1
            have gU := hc36 (tk n') gtk
            refine z_iconstB F true dX6_seeks_269 rfl ?_
            refine z_goto F (tgt := 274) dX6_seeks_270 (by decide) ?_
            refine z_istore F dX6_seeks_274 (Nat.le_of_ble_eq_true rfl) ?_
            refine z_leq (L' := [_, _, _, _, _, _, _, _, _]) rfl ?_
            refine z_iload F dX6_seeks_276 rfl ?_
            refine z_if_eqB F (tgt := 178) dX6_seeks_278 (by decide) (fun c_278 => ?_) (fun c_278 => ?_)
            · cases c_278
            · refine z_idecN F (by omega) dX6_seeks_281 rfl rfl ?_
              refine z_leq (L' := [_, _, _, _, _, _, _, _, _]) rfl ?_
              refine z_iload F dX6_seeks_284 rfl ?_
              refine z_aload_n F dX6_seeks_286 rfl ?_
              refine z_ma F rfl 36 rfl (Nat.le_of_ble_eq_true rfl) rfl q1516 dX6_seeks_287 ?_
              refine z_aload_n F dX6_seeks_290 rfl ?_
              refine z_ma F rfl 37 rfl (Nat.le_of_ble_eq_true rfl) rfl q1517 dX6_seeks_291 ?_
              refine z_iload F dX6_seeks_294 rfl ?_
              refine z_ialdGN F rfl rfl (Nat.le_of_ble_eq_true rfl) (by omega) rfl dX6_seeks_296 ?_
              refine z_ieq (g37) ?_
              refine z_ialdGN F rfl rfl (Nat.le_of_ble_eq_true rfl) (by omega) rfl dX6_seeks_297 ?_
              rw [gU]
              refine z_iconst F (-1) dX6_seeks_298 rfl ?_
              refine z_ixor F dX6_seeks_299 ?_
              refine z_iand F dX6_seeks_300 ?_
              refine z_istore F dX6_seeks_301 (Nat.le_of_ble_eq_true rfl) ?_
              refine z_leq (L' := [_, _, _, _, _, _, _, _, _]) rfl ?_
              refine z_aload_n F dX6_seeks_303 rfl ?_
              refine z_ma F rfl 37 rfl (Nat.le_of_ble_eq_true rfl) rfl q1517 dX6_seeks_304 ?_
              refine z_iload F dX6_seeks_307 rfl ?_
              refine z_ialdGN F rfl rfl (Nat.le_of_ble_eq_true rfl) (by omega) rfl dX6_seeks_309 ?_
              refine z_ieq (g37) ?_
              refine z_iconst F (nI 1) dX6_seeks_310 rfl ?_
              refine z_iaddN F dX6_seeks_311 ?_
              refine z_istore F dX6_seeks_312 (Nat.le_of_ble_eq_true rfl) ?_
              refine z_leq (L' := [_, _, _, _, _, _, _, _, _]) rfl ?_
              refine z_goto F (tgt := 178) dX6_seeks_314 (by decide) ?_
              refine z_iload F dX6_seeks_178 rfl ?_
              refine z_if_eqB F (tgt := 317) dX6_seeks_180 (by decide) (fun c_180 => ?_) (fun c_180 => ?_)
              · cases c_180
              · refine z_loc _ ?_ (ih (tk n' + 1) n' (mv n') P Bs tk mv F1 A1 (by omega) I2 hC h38 hF hA hc36 (fun i hi => hc37 i (by omega)) hc43)
                rw [← e2]
                exact ⟨rfl, rfl, rfl, rfl, rfl, rfl, rfl, rfl, rfl, trivial⟩
        · exact absurd c_222 (by omega)
      · have g36 := g36 (by omega)
        refine z_iload F dX6_seeks_192 rfl ?_
        refine z_aload_n F dX6_seeks_194 rfl ?_
        refine z_ma F rfl 36 rfl (Nat.le_of_ble_eq_true rfl) rfl q1516 dX6_seeks_195 ?_
        refine z_iload F dX6_seeks_198 rfl ?_
        refine z_ialdGN F rfl rfl (Nat.le_of_ble_eq_true rfl) (by omega) rfl dX6_seeks_200 ?_
        rw [g36]
        refine z_ior F dX6_seeks_201 ?_
        refine z_callS F (c_bits (HOr.hOr c (sku kd a b (a * b) k))) 1 rfl (lw_S q1752 q1753 q117 q1754) (by decide +kernel) ⟨Nat.le_of_ble_eq_true rfl, Nat.le_of_ble_eq_true rfl⟩ ⟨by omega, by omega⟩ [0] 2 ⟨rfl, rfl, rfl, ⟨Or.inl rfl, trivial⟩⟩ (fun h => nomatch h) (Nat.le_of_ble_eq_true rfl) ⟨⟨Or.inr trivial, Or.inr trivial, trivial⟩, rfl, rfl, rfl, Nat.le_of_ble_eq_true rfl⟩ rfl rfl dX6_seeks_202 (fun r_202 w_202 hp => ?_) (fun _ _ h => h.elim)
        obtain ⟨rfl, rfl⟩ := hp
        refine z_weq (w' := [zH, zG _ _ _ _]) rfl ?_
        refine z_seq (S' := zi _ :: _) rfl ?_
        refine z_iload F dX6_seeks_205 rfl ?_
        refine z_icmp_leN F (by omega) (by omega) (tgt := 216) dX6_seeks_207 (by decide) (fun c_207 => ?_) (fun c_207 => ?_)
        · refine z_iload F dX6_seeks_216 rfl ?_
          refine z_aload_n F dX6_seeks_218 rfl ?_
          refine z_mi F rfl 38 rfl (Nat.le_of_ble_eq_true rfl) rfl q1518 dX6_seeks_219 ?_
          refine z_ieq (h38) ?_
          refine z_icmp_geN F (by omega) (by omega) (tgt := 264) dX6_seeks_222 (by decide) (fun c_222 => ?_) (fun c_222 => ?_)
          · exact absurd c_222 (by omega)
          · refine z_iload F dX6_seeks_225 rfl ?_
            refine z_aload_n F dX6_seeks_227 rfl ?_
            refine z_ma F rfl 36 rfl (Nat.le_of_ble_eq_true rfl) rfl q1516 dX6_seeks_228 ?_
            refine z_iload F dX6_seeks_231 rfl ?_
            refine z_ialdGN F rfl rfl (Nat.le_of_ble_eq_true rfl) (by omega) rfl dX6_seeks_233 ?_
            rw [g36]
            refine z_ior F dX6_seeks_234 ?_
            refine z_istore F dX6_seeks_235 (Nat.le_of_ble_eq_true rfl) ?_
            refine z_leq (L' := [_, _, _, _, _, _, _, _, _]) rfl ?_
            refine z_aload_n F dX6_seeks_237 rfl ?_
            refine z_ma F rfl 37 rfl (Nat.le_of_ble_eq_true rfl) rfl q1517 dX6_seeks_238 ?_
            refine z_iload F dX6_seeks_241 rfl ?_
            refine z_iload F dX6_seeks_243 rfl ?_
            refine z_iastGN F rfl rfl (Nat.le_of_ble_eq_true rfl) (by omega) dX6_seeks_245 ?_
            refine z_weq (w' := [_, _]) rfl ?_
            refine z_iincN F 1 dX6_seeks_246 rfl rfl ?_
            refine z_leq (L' := [_, _, _, _, _, _, _, _, _]) rfl ?_
            refine z_iincN F 1 dX6_seeks_249 rfl rfl ?_
            refine z_leq (L' := [_, _, _, _, _, _, _, _, _]) rfl ?_
            exact tail _ (by omega) (by omega) rfl
        · refine z_iincN F 1 dX6_seeks_210 rfl rfl ?_
          refine z_leq (L' := [_, _, _, _, _, _, _, _, _]) rfl ?_
          refine z_goto F (tgt := 183) dX6_seeks_213 (by decide) ?_
          obtain ⟨I2, P2⟩ := hI.skip (by omega) (by omega)
          exact ih (k + 1) n c P Bs tk mv F1 A1 (by omega) I2 hC h38 hF hA hc36 hc37 hc43
  have start : ∀ (F1 : Nat → Int32) (A1 : Nat → Nat → Int32), F1 38 = nI (skn kd a b (a * b)) → frm [38, 39, 40, 41, 42] F0 F1 → frm [36, 37, 43, 44] A A1 → (∀ i, i < skn kd a b (a * b) → A1 36 i = sku kd a b (a * b) i) → (∀ s x, s < a * b → x < a * b → A1 43 (24 * s + x) = nI (gth kd a b x s)) → Z X [some (zr 1 0), some (zi (nI kd)), some (zi (nI a)), some (zi (nI b)), some (zi (nI most)), none, none, none, none] [] [zH, zG F1 G A1 B] 0 0 152 := by
    intro F1 A1 h38 hF hA hc36 hc43
    have T0 : Tg (sku kd a b (a * b)) most (skn kd a b (a * b)) 0 (nI 0) (nI 0) := Tg_self _ _ _
    refine z_aload_n F dX6_seeks_152 rfl ?_
    refine z_iconst F (-1) dX6_seeks_153 rfl ?_
    refine z_pmi F rfl 42 rfl (Nat.le_of_ble_eq_true rfl) rfl q1522 rfl rfl rfl dX6_seeks_154 ?_
    refine z_weq (w' := [_, _]) rfl ?_
    refine z_iconst F (nI 0) dX6_seeks_157 rfl ?_
    refine z_istore F dX6_seeks_158 (Nat.le_of_ble_eq_true rfl) ?_
    refine z_leq (L' := [_, _, _, _, _, _, _, _, _]) rfl ?_
    refine z_aload_n F dX6_seeks_160 rfl ?_
    refine z_iload F dX6_seeks_161 rfl ?_
    refine z_iload_n F dX6_seeks_163 rfl ?_
    refine z_iload_n F dX6_seeks_164 rfl ?_
    refine z_imulN F dX6_seeks_165 ?_
    refine z_callV F (c_mtries _ _ _ _ kd a b (nI 0) none h (fun i hi => by rw [show bt (nI 0) i = false from b_0 i] at hi; cases hi) (fun s x hs hx => hc43 s x hs hx) (show upd F1 42 (-1) 42 = -1 from rfl)) 2 rfl (lw_V q1986 q1988 qs80 q117 q1989) (by decide +kernel) ⟨Nat.le_of_ble_eq_true rfl, Nat.le_of_ble_eq_true rfl⟩ ⟨by omega, by omega⟩ [0, 1] 2 ⟨rfl, rfl, rfl, ⟨Or.inl rfl, Or.inr rfl, trivial⟩⟩ (fun h => nomatch h) (Nat.le_of_ble_eq_true rfl) ⟨⟨Or.inr trivial, Or.inl rfl, trivial⟩, rfl, rfl, rfl, Nat.le_of_ble_eq_true rfl⟩ rfl zC6 (zat_G0 rfl) rfl dX6_seeks_166 (fun r_166 w_166 hp => ?_) (fun _ _ h => h.elim)
    obtain ⟨rfl, F2, A2, rfl, f2, f3, f4⟩ := hp
    refine z_weq (w' := [zH, zG _ _ _ _]) rfl ?_
    refine z_seq (S' := []) rfl ?_
    refine z_iconst F (nI 0) dX6_seeks_169 rfl ?_
    refine z_istore F dX6_seeks_170 (Nat.le_of_ble_eq_true rfl) ?_
    refine z_leq (L' := [_, _, _, _, _, _, _, _, _]) rfl ?_
    refine z_iconst F (nI 0) dX6_seeks_172 rfl ?_
    refine z_istore F dX6_seeks_173 (Nat.le_of_ble_eq_true rfl) ?_
    refine z_leq (L' := [_, _, _, _, _, _, _, _, _]) rfl ?_
    refine z_iconstB F true dX6_seeks_175 rfl ?_
    refine z_istore F dX6_seeks_176 (Nat.le_of_ble_eq_true rfl) ?_
    refine z_leq (L' := [_, _, _, _, _, _, _, _, _]) rfl ?_
    refine z_iload F dX6_seeks_178 rfl ?_
    refine z_if_eqB F (tgt := 317) dX6_seeks_180 (by decide) (fun c_180 => ?_) (fun c_180 => ?_)
    · cases c_180
    · exact loop _ 0 0 (nI 0) (fun x => False ∨ x = nI 0) _ (fun _ => 0) (fun _ => nI 0) F2 A2 (Nat.lt_succ_self _) ⟨isMn_put (isMn_none _) (nI 0), fun x hx => hx.elim (fun q => q.elim) (fun q => by rw [q]; exact T0), fun x hx => hx, fun i hi => absurd hi (by omega), rfl, Or.inr rfl, fun j t _ _ _ => b_0 t, fun x hx => Or.inr (Or.inl hx), by omega, fun i hi => absurd hi (by omega), by omega⟩ f4 (by rw [f2.at 38 rfl]; exact h38) ((frm_upd hF (by decide)).tr f2 (by decide) (by decide)) (hA.tr f3 (by decide) (by decide)) (fun i hi => by rw [f3.at 36 rfl]; exact hc36 i hi) (fun i hi => absurd hi (by omega)) (fun s x hs hx => by rw [f3.at 43 rfl]; exact hc43 s x hs hx)
  have srow : ∀ (F1 : Nat → Int32) (s : Nat), s < a * b → (∀ A1, frm [36, 37, 43, 44] A A1 → (∀ i, i < skn kd a b (a * b) → A1 36 i = sku kd a b (a * b) i) → (∀ t x, t < a * b → x < a * b → t < s + 1 → A1 43 (24 * t + x) = nI (gth kd a b x t)) → Z X [some (zr 1 0), some (zi (nI kd)), some (zi (nI a)), some (zi (nI b)), some (zi (nI most)), some (zi (nI (s + 1))), none, none, none] [] [zH, zG F1 G A1 B] 0 0 98) →
      ∀ (m x : Nat) (A1 : Nat → Nat → Int32), a * b - x < m → x ≤ a * b → frm [36, 37, 43, 44] A A1 → (∀ i, i < skn kd a b (a * b) → A1 36 i = sku kd a b (a * b) i) → (∀ t y, t < a * b → y < a * b → (t < s ∨ t = s ∧ y < x) → A1 43 (24 * t + y) = nI (gth kd a b y t)) → Z X [some (zr 1 0), some (zi (nI kd)), some (zi (nI a)), some (zi (nI b)), some (zi (nI most)), some (zi (nI s)), some (zi (nI x)), none, none] [] [zH, zG F1 G A1 B] 0 0 109 := by
    intro F1 s hs kk m
    induction m with
    | zero => intro x A1 hm; omega
    | succ m ih =>
      intro x A1 hm hx hA hc36 hc43
      refine z_iload F dX6_seeks_109 rfl ?_
      refine z_iload_n F dX6_seeks_111 rfl ?_
      refine z_iload_n F dX6_seeks_112 rfl ?_
      refine z_imulN F dX6_seeks_113 ?_
      refine z_icmp_geN F (by omega) (by omega) (tgt := 146) dX6_seeks_114 (by decide) (fun c_114 => ?_) (fun c_114 => ?_)
      · refine z_iincN F 1 dX6_seeks_146 rfl rfl ?_
        refine z_leq (L' := [_, _, _, _, _, _, _, _, _]) rfl ?_
        refine z_goto F (tgt := 98) dX6_seeks_149 (by decide) ?_
        rw [show x = a * b by omega] at hc43
        refine z_loc _ ?_ (kk A1 hA hc36 (fun t y ht hy q => hc43 t y ht hy (by omega)))
        exact ⟨rfl, rfl, rfl, rfl, rfl, rfl, trivial⟩
      · refine z_aload_n F dX6_seeks_117 rfl ?_
        refine z_ma F rfl 43 rfl (Nat.le_of_ble_eq_true rfl) rfl q1523 dX6_seeks_118 ?_
        refine z_bipush F (nI 24) dX6_seeks_121 rfl ?_
        refine z_iload F dX6_seeks_123 rfl ?_
        refine z_imulN F dX6_seeks_125 ?_
        refine z_iload F dX6_seeks_126 rfl ?_
        refine z_iaddN F dX6_seeks_128 ?_
        refine z_iload_n F dX6_seeks_129 rfl ?_
        refine z_iload_n F dX6_seeks_130 rfl ?_
        refine z_iload_n F dX6_seeks_131 rfl ?_
        refine z_iload F dX6_seeks_132 rfl ?_
        refine z_iload F dX6_seeks_134 rfl ?_
        refine z_callS F (c_mprod kd a b x s h (by omega) hs) 5 rfl (lw_S q1845 q1846 q117 q1847) (by decide +kernel) ⟨Nat.le_of_ble_eq_true rfl, Nat.le_of_ble_eq_true rfl⟩ ⟨by omega, by omega⟩ [0] 2 ⟨rfl, rfl, rfl, ⟨Or.inl rfl, trivial⟩⟩ (fun h => nomatch h) (Nat.le_of_ble_eq_true rfl) ⟨⟨Or.inr trivial, Or.inr trivial, trivial⟩, rfl, rfl, rfl, Nat.le_of_ble_eq_true rfl⟩ rfl rfl dX6_seeks_136 (fun r_136 w_136 hp => ?_) (fun _ _ h => h.elim)
        obtain ⟨rfl, rfl⟩ := hp
        refine z_weq (w' := [zH, zG _ _ _ _]) rfl ?_
        refine z_seq (S' := zi _ :: _) rfl ?_
        refine z_iastGN F rfl rfl (Nat.le_of_ble_eq_true rfl) (by omega) dX6_seeks_139 ?_
        refine z_weq (w' := [_, _]) rfl ?_
        refine z_iincN F 1 dX6_seeks_140 rfl rfl ?_
        refine z_leq (L' := [_, _, _, _, _, _, _, _, _]) rfl ?_
        refine z_goto F (tgt := 109) dX6_seeks_143 (by decide) ?_
        refine ih (x + 1) _ (by omega) (by omega) (frm_zup hA (by decide)) hc36 (fun t y ht hy q => ?_)
        rw [zup2_row]
        show (if 24 * t + y = 24 * s + x then _ else A1 43 (24 * t + y)) = _
        by_cases e : t = s ∧ y = x
        · rw [if_pos (by rw [e.1, e.2]), e.1, e.2]
        · rw [if_neg (by omega)]; exact hc43 t y ht hy (by omega)
  have sall : ∀ (F1 : Nat → Int32), F1 38 = nI (skn kd a b (a * b)) → frm [38, 39, 40, 41, 42] F0 F1 → ∀ (m s : Nat) (A1 : Nat → Nat → Int32), a * b - s < m → s ≤ a * b → frm [36, 37, 43, 44] A A1 → (∀ i, i < skn kd a b (a * b) → A1 36 i = sku kd a b (a * b) i) → (∀ t x, t < a * b → x < a * b → t < s → A1 43 (24 * t + x) = nI (gth kd a b x t)) → Z X [some (zr 1 0), some (zi (nI kd)), some (zi (nI a)), some (zi (nI b)), some (zi (nI most)), some (zi (nI s)), none, none, none] [] [zH, zG F1 G A1 B] 0 0 98 := by
    intro F1 h38 hF m
    induction m with
    | zero => intro s A1 hm; omega
    | succ m ih =>
      intro s A1 hm hs hA hc36 hc43
      refine z_iload F dX6_seeks_98 rfl ?_
      refine z_iload_n F dX6_seeks_100 rfl ?_
      refine z_iload_n F dX6_seeks_101 rfl ?_
      refine z_imulN F dX6_seeks_102 ?_
      refine z_icmp_geN F (by omega) (by omega) (tgt := 152) dX6_seeks_103 (by decide) (fun c_103 => ?_) (fun c_103 => ?_)
      · refine z_loc _ ?_ (start F1 A1 h38 hF hA hc36 (fun t x ht hx => hc43 t x ht hx (by omega)))
        exact ⟨rfl, rfl, rfl, rfl, rfl, trivial⟩
      · refine z_iconst F (nI 0) dX6_seeks_106 rfl ?_
        refine z_istore F dX6_seeks_107 (Nat.le_of_ble_eq_true rfl) ?_
        refine z_leq (L' := [_, _, _, _, _, _, _, _, _]) rfl ?_
        exact srow F1 s (by omega) (fun A2 q1 q2 q3 => ih (s + 1) A2 (by omega) (by omega) q1 q2 q3) (a * b + 1) 0 A1 (by omega) (by omega) hA hc36 (fun t y ht hy q => hc43 t y ht hy (by omega))
  have zer : ∀ (F1 : Nat → Int32), F1 38 = nI (skn kd a b (a * b)) → frm [38, 39, 40, 41, 42] F0 F1 → ∀ (m s : Nat) (A1 : Nat → Nat → Int32), 576 - s < m → s ≤ 576 → frm [36, 37, 43, 44] A A1 → (∀ i, i < skn kd a b (a * b) → A1 36 i = sku kd a b (a * b) i) → Z X [some (zr 1 0), some (zi (nI kd)), some (zi (nI a)), some (zi (nI b)), some (zi (nI most)), some (zi (nI s)), none, none, none] [] [zH, zG F1 G A1 B] 0 0 73 := by
    intro F1 h38 hF m
    induction m with
    | zero => intro s A1 hm; omega
    | succ m ih =>
      intro s A1 hm hs hA hc36
      refine z_iload F dX6_seeks_73 rfl ?_
      refine z_sipush F (nI 576) dX6_seeks_75 rfl ?_
      refine z_icmp_geN F (by omega) (by omega) (tgt := 95) dX6_seeks_78 (by decide) (fun c_78 => ?_) (fun c_78 => ?_)
      · refine z_iconst F (nI 0) dX6_seeks_95 rfl ?_
        refine z_istore F dX6_seeks_96 (Nat.le_of_ble_eq_true rfl) ?_
        refine z_leq (L' := [_, _, _, _, _, _, _, _, _]) rfl ?_
        exact sall F1 h38 hF (a * b + 1) 0 A1 (by omega) (by omega) hA hc36 (fun t x _ _ q => absurd q (by omega))
      · refine z_aload_n F dX6_seeks_81 rfl ?_
        refine z_ma F rfl 43 rfl (Nat.le_of_ble_eq_true rfl) rfl q1523 dX6_seeks_82 ?_
        refine z_iload F dX6_seeks_85 rfl ?_
        refine z_iconst F (nI 0) dX6_seeks_87 rfl ?_
        refine z_iastGN F rfl rfl (Nat.le_of_ble_eq_true rfl) (by omega) dX6_seeks_88 ?_
        refine z_weq (w' := [_, _]) rfl ?_
        refine z_iincN F 1 dX6_seeks_89 rfl rfl ?_
        refine z_leq (L' := [_, _, _, _, _, _, _, _, _]) rfl ?_
        refine z_goto F (tgt := 73) dX6_seeks_92 (by decide) ?_
        exact ih (s + 1) _ (by omega) (by omega) (frm_zup hA (by decide)) hc36
  have cpl : ∀ (m s : Nat) (F1 : Nat → Int32) (A1 : Nat → Nat → Int32), a * b - s < m → 1 ≤ s → s ≤ a * b → F1 38 = nI (skn kd a b s) → frm [38, 39, 40, 41, 42] F0 F1 → frm [36, 37, 43, 44] A A1 → (∀ i, i < skn kd a b s → A1 36 i = sku kd a b s i) → Z X [some (zr 1 0), some (zi (nI kd)), some (zi (nI a)), some (zi (nI b)), some (zi (nI most)), some (zi (nI s)), none, none, none] [] [zH, zG F1 G A1 B] 0 0 8 := by
    intro m
    induction m with
    | zero => intro s F1 A1 hm; omega
    | succ m ih =>
      intro s F1 A1 hm h1 hs h38 hF hA hc36
      have hl := skn_le kd a b s
      have hgl : s < a * b → gop kd a b s < a * b := fun z => gop_lt h z
      have nx : ∀ (F2 : Nat → Int32) (A2 : Nat → Nat → Int32), s < a * b → _ := fun F2 A2 z => ih (s + 1) F2 A2 (by omega) (by omega) z
      rw [skn, sku] at nx
      refine z_iload F dX6_seeks_8 rfl ?_
      refine z_iload_n F dX6_seeks_10 rfl ?_
      refine z_iload_n F dX6_seeks_11 rfl ?_
      refine z_imulN F dX6_seeks_12 ?_
      refine z_icmp_geN F (by omega) (by omega) (tgt := 70) dX6_seeks_13 (by decide) (fun c_13 => ?_) (fun c_13 => ?_)
      · refine z_iconst F (nI 0) dX6_seeks_70 rfl ?_
        refine z_istore F dX6_seeks_71 (Nat.le_of_ble_eq_true rfl) ?_
        refine z_leq (L' := [_, _, _, _, _, _, _, _, _]) rfl ?_
        rw [show s = a * b by omega] at h38 hc36
        exact zer F1 h38 hF 577 0 A1 (by omega) (by omega) hA hc36
      · have hgl := hgl (by omega)
        refine z_iload_n F dX6_seeks_16 rfl ?_
        refine z_iload_n F dX6_seeks_17 rfl ?_
        refine z_iload_n F dX6_seeks_18 rfl ?_
        refine z_iload F dX6_seeks_19 rfl ?_
        refine z_callS F (c_mopp kd a b s h (by omega)) 4 rfl (lw_S q1842 q1843 q117 q1844) (by decide +kernel) ⟨Nat.le_of_ble_eq_true rfl, Nat.le_of_ble_eq_true rfl⟩ ⟨by omega, by omega⟩ [0] 2 ⟨rfl, rfl, rfl, ⟨Or.inl rfl, trivial⟩⟩ (fun h => nomatch h) (Nat.le_of_ble_eq_true rfl) ⟨⟨Or.inr trivial, Or.inr trivial, trivial⟩, rfl, rfl, rfl, Nat.le_of_ble_eq_true rfl⟩ rfl rfl dX6_seeks_21 (fun r_21 w_21 hp => ?_) (fun _ _ h => h.elim)
        obtain ⟨rfl, rfl⟩ := hp
        refine z_weq (w' := [zH, zG _ _ _ _]) rfl ?_
        refine z_seq (S' := zi _ :: _) rfl ?_
        refine z_istore F dX6_seeks_24 (Nat.le_of_ble_eq_true rfl) ?_
        refine z_leq (L' := [_, _, _, _, _, _, _, _, _]) rfl ?_
        refine z_iload F dX6_seeks_26 rfl ?_
        refine z_iload F dX6_seeks_28 rfl ?_
        refine z_icmp_geN F (by omega) (by omega) (tgt := 36) dX6_seeks_30 (by decide) (fun c_30 => ?_) (fun c_30 => ?_)
        · refine z_aload_n F dX6_seeks_36 rfl ?_
          refine z_ma F rfl 36 rfl (Nat.le_of_ble_eq_true rfl) rfl q1516 dX6_seeks_37 ?_
          refine z_aload_n F dX6_seeks_40 rfl ?_
          refine z_mi F rfl 38 rfl (Nat.le_of_ble_eq_true rfl) rfl q1518 dX6_seeks_41 ?_
          refine z_ieq (h38) ?_
          refine z_iconst F (nI 1) dX6_seeks_44 rfl ?_
          refine z_iload F dX6_seeks_45 rfl ?_
          refine z_ishlB F dX6_seeks_47 ?_
          refine z_iconst F (nI 1) dX6_seeks_48 rfl ?_
          refine z_iload F dX6_seeks_49 rfl ?_
          refine z_ishlB F dX6_seeks_51 ?_
          refine z_ior F dX6_seeks_52 ?_
          refine z_iastGN F rfl rfl (Nat.le_of_ble_eq_true rfl) (by omega) dX6_seeks_53 ?_
          refine z_weq (w' := [_, _]) rfl ?_
          refine z_aload_n F dX6_seeks_54 rfl ?_
          refine z_dup F dX6_seeks_55 rfl ?_
          refine z_mi F rfl 38 rfl (Nat.le_of_ble_eq_true rfl) rfl q1518 dX6_seeks_56 ?_
          refine z_ieq (h38) ?_
          refine z_iconst F (nI 1) dX6_seeks_59 rfl ?_
          refine z_iaddN F dX6_seeks_60 ?_
          refine z_pmi F rfl 38 rfl (Nat.le_of_ble_eq_true rfl) rfl q1518 rfl rfl rfl dX6_seeks_61 ?_
          refine z_weq (w' := [_, _]) rfl ?_
          refine z_iincN F 1 dX6_seeks_64 rfl rfl ?_
          refine z_leq (L' := [_, _, _, _, _, _, _, _, _]) rfl ?_
          refine z_goto F (tgt := 8) dX6_seeks_67 (by decide) ?_
          have n1 := nx (upd F1 38 (nI (skn kd a b s + 1))) (zup2 A1 36 (skn kd a b s) (b1 s ||| b1 (gop kd a b s))) (by omega)
          rw [if_pos ⟨h1, by omega⟩, if_pos ⟨h1, by omega⟩] at n1
          refine z_loc _ ?_ (n1 rfl (frm_upd hF (by decide)) (frm_zup hA (by decide)) (fun i hi => ?_))
          · exact ⟨rfl, rfl, rfl, rfl, rfl, rfl, trivial⟩
          rw [zup2_row]
          show (if i = skn kd a b s then _ else A1 36 i) = (if i = skn kd a b s then _ else sku kd a b s i)
          by_cases e : i = skn kd a b s
          · rw [if_pos e, if_pos e]
          · rw [if_neg e, if_neg e]; exact hc36 i (by omega)
        · refine z_goto F (tgt := 64) dX6_seeks_33 (by decide) ?_
          refine z_iincN F 1 dX6_seeks_64 rfl rfl ?_
          refine z_leq (L' := [_, _, _, _, _, _, _, _, _]) rfl ?_
          refine z_goto F (tgt := 8) dX6_seeks_67 (by decide) ?_
          have n1 := nx F1 A1 (by omega)
          rw [if_neg (by omega), if_neg (by omega)] at n1
          refine z_loc _ ?_ (n1 h38 hF hA hc36)
          exact ⟨rfl, rfl, rfl, rfl, rfl, rfl, trivial⟩
  refine z_aload_n F dX6_seeks_0 rfl ?_
  refine z_iconst F (nI 0) dX6_seeks_1 rfl ?_
  refine z_pmi F rfl 38 rfl (Nat.le_of_ble_eq_true rfl) rfl q1518 rfl rfl rfl dX6_seeks_2 ?_
  refine z_weq (w' := [_, _]) rfl ?_
  refine z_iconst F (nI 1) dX6_seeks_5 rfl ?_
  refine z_istore F dX6_seeks_6 (Nat.le_of_ble_eq_true rfl) ?_
  refine z_leq (L' := [_, _, _, _, _, _, _, _, _]) rfl ?_
  exact cpl (a * b + 1) 1 _ A (by omega) (by omega) (by omega) rfl (frm_upd frm.rf (by decide)) frm.rf (fun i hi => absurd hi (by rw [show skn kd a b 1 = 0 from rfl]; omega))
def skAt (kd a b dg : Nat) : Nat := 9 * (25 * (25 * kd + a) + b) + dg
theorem c_mseek_ok (F0 : Nat → Int32) (G : Nat → Int64) (A : Nat → Nat → Int32) (B : Nat → Nat → Int64) (kd a b dg : Nat) (h : grok kd a b) (hd1 : 1 ≤ dg) (hd8 : dg ≤ 8) (hS : A 35 (skAt kd a b dg) = 0 ∨ A 35 (skAt kd a b dg) = skR kd a b dg + nI 2) :
    zCtr yX6_seek cX6_seek 6 (some .int) 4 0 0 [zr 1 0, zi (nI kd), zi (nI a), zi (nI b), zi (nI dg)] [zH, zG F0 G A B] (fun r w => r = some (zi (skR kd a b dg)) ∧ ∃ F' A', w = [zH, zG F' G A' B] ∧ F' 0 = nI 0 ∧ frm [0, 38, 39, 40, 41, 42] F0 F' ∧ frm [35, 36, 37, 43, 44] A A' ∧ ∀ i, A' 35 i = A 35 i ∨ (i = skAt kd a b dg ∧ A' 35 i = skR kd a b dg + nI 2)) zNx := by
  refine z_start (by decide) [some (zr 1 0), some (zi (nI kd)), some (zi (nI a)), some (zi (nI b)), some (zi (nI dg)), none] rfl (fun _ => Nat.le_of_ble_eq_true rfl) (fun _ => rfl) (fun X F E hno hin => ?_)
  obtain ⟨h1, h2, h3, h4, h5⟩ := id h
  have ha : a ≤ 24 := Nat.le_trans (Nat.le_mul_of_pos_right a h3) h4
  have hb : b ≤ 24 := Nat.le_trans (Nat.le_mul_of_pos_left b h2) h4
  refine z_aload_n F dX6_seek_0 rfl ?_
  refine z_iconst F (nI 0) dX6_seek_1 rfl ?_
  refine z_pmi F rfl 0 rfl (Nat.le_of_ble_eq_true rfl) rfl q1480 rfl rfl rfl dX6_seek_2 ?_
  refine z_weq (w' := [_, _]) rfl ?_
  refine z_aload_n F dX6_seek_5 rfl ?_
  refine z_iload_n F dX6_seek_6 rfl ?_
  refine z_iload_n F dX6_seek_7 rfl ?_
  refine z_iload_n F dX6_seek_8 rfl ?_
  refine z_callS F (c_misGroup (nI kd) (nI a) (nI b)) 3 rfl (lw_S q1836 q1837 q117 q1838) (by decide +kernel) ⟨Nat.le_of_ble_eq_true rfl, Nat.le_of_ble_eq_true rfl⟩ ⟨by omega, by omega⟩ [0] 2 ⟨rfl, rfl, rfl, ⟨Or.inl rfl, trivial⟩⟩ (fun h => nomatch h) (Nat.le_of_ble_eq_true rfl) ⟨⟨Or.inr trivial, Or.inr trivial, trivial⟩, rfl, rfl, rfl, Nat.le_of_ble_eq_true rfl⟩ rfl rfl dX6_seek_9 (fun r_9 w_9 hp => ?_) (fun _ _ h => h.elim)
  obtain ⟨rfl, rfl⟩ := hp
  refine z_weq (w' := [zH, zG _ _ _ _]) rfl ?_
  refine z_seq (S' := zi _ :: _) rfl ?_
  refine z_if_eqB F (tgt := 30) dX6_seek_12 (by decide) (fun c_12 => ?_) (fun c_12 => ?_)
  · rw [grB_n h] at c_12; cases c_12
  · refine z_iload F dX6_seek_15 rfl ?_
    refine z_iconst F (nI 1) dX6_seek_17 rfl ?_
    refine z_bipush F (nI 8) dX6_seek_18 rfl ?_
    refine z_callS F (c_within (nI dg) (nI 1) (nI 8)) 3 rfl (lw_S q1717 q1718 q117 q1719) (by decide +kernel) ⟨Nat.le_of_ble_eq_true rfl, Nat.le_of_ble_eq_true rfl⟩ ⟨by omega, by omega⟩ [0] 2 ⟨rfl, rfl, rfl, ⟨Or.inl rfl, trivial⟩⟩ (fun h => nomatch h) (Nat.le_of_ble_eq_true rfl) ⟨⟨Or.inr trivial, Or.inr trivial, trivial⟩, rfl, rfl, rfl, Nat.le_of_ble_eq_true rfl⟩ rfl rfl dX6_seek_20 (fun r_20 w_20 hp => ?_) (fun _ _ h => h.elim)
    obtain ⟨rfl, rfl⟩ := hp
    refine z_weq (w' := [zH, zG _ _ _ _]) rfl ?_
    refine z_seq (S' := zi _ :: _) rfl ?_
    refine z_if_eqB F (tgt := 30) dX6_seek_23 (by decide) (fun c_23 => ?_) (fun c_23 => ?_)
    · rw [inB_nn hd1 hd8 (by omega)] at c_23; cases c_23
    · refine z_iconstB F true dX6_seek_26 rfl ?_
      refine z_goto F (tgt := 31) dX6_seek_27 (by decide) ?_
      refine z_iconst F (nI 1) dX6_seek_31 rfl ?_
      refine z_callV F (c_right (upd F0 0 (nI 0)) _ _ _ true 1 rfl (by omega) (by omega)) 2 rfl (lw_V q1736 q1738 qs43 q117 q1739) (by decide +kernel) ⟨Nat.le_of_ble_eq_true rfl, Nat.le_of_ble_eq_true rfl⟩ ⟨by omega, by omega⟩ [0, 1] 2 ⟨rfl, rfl, rfl, ⟨Or.inl rfl, Or.inr rfl, trivial⟩⟩ (fun h => nomatch h) (Nat.le_of_ble_eq_true rfl) ⟨⟨Or.inr trivial, Or.inl rfl, trivial⟩, rfl, rfl, rfl, Nat.le_of_ble_eq_true rfl⟩ rfl zC6 (zat_G0 rfl) rfl dX6_seek_32 (fun r_32 w_32 hp => ?_) (fun _ _ h => h.elim)
      obtain ⟨rfl, rfl⟩ := hp
      refine z_weq (w' := [zH, zG _ _ _ _]) rfl ?_
      refine z_seq (S' := zi _ :: _) rfl ?_
      refine z_if_neB F (tgt := 40) dX6_seek_35 (by decide) (fun c_35 => ?_) (fun c_35 => ?_)
      · refine z_bipush F (nI 9) dX6_seek_40 rfl ?_
        refine z_bipush F (nI 25) dX6_seek_42 rfl ?_
        refine z_bipush F (nI 25) dX6_seek_44 rfl ?_
        refine z_iload_n F dX6_seek_46 rfl ?_
        refine z_imulN F dX6_seek_47 ?_
        refine z_iload_n F dX6_seek_48 rfl ?_
        refine z_iaddN F dX6_seek_49 ?_
        refine z_imulN F dX6_seek_50 ?_
        refine z_iload_n F dX6_seek_51 rfl ?_
        refine z_iaddN F dX6_seek_52 ?_
        refine z_imulN F dX6_seek_53 ?_
        refine z_iload F dX6_seek_54 rfl ?_
        refine z_iaddN F dX6_seek_56 ?_
        refine z_istore F dX6_seek_57 (Nat.le_of_ble_eq_true rfl) ?_
        refine z_leq (L' := [_, _, _, _, _, _]) rfl ?_
        refine z_aload_n F dX6_seek_59 rfl ?_
        refine z_ma F rfl 35 rfl (Nat.le_of_ble_eq_true rfl) rfl q1515 dX6_seek_60 ?_
        refine z_iload F dX6_seek_63 rfl ?_
        refine z_ialdGN F rfl rfl (Nat.le_of_ble_eq_true rfl) (by omega) rfl dX6_seek_65 ?_
        refine z_if_ne F (tgt := 87) dX6_seek_66 (by decide) (fun c_66 => ?_) (fun c_66 => ?_)
        · refine z_aload_n F dX6_seek_87 rfl ?_
          refine z_ma F rfl 35 rfl (Nat.le_of_ble_eq_true rfl) rfl q1515 dX6_seek_88 ?_
          refine z_iload F dX6_seek_91 rfl ?_
          refine z_ialdGN F rfl rfl (Nat.le_of_ble_eq_true rfl) (by omega) rfl dX6_seek_93 ?_
          refine z_iconst F (nI 2) dX6_seek_94 rfl ?_
          refine z_isub F dX6_seek_95 ?_
          exact z_iret F E rfl dX6_seek_96 (by omega) (by omega) (⟨by
  rcases hS with z | z
  · exact absurd z c_66
  · rw [show A 35 (9 * (25 * (25 * kd + a) + b) + dg) = _ from z, Int32.add_sub_cancel], _, A, rfl, rfl, frm_upd frm.rf (by decide), frm.rf, fun i => Or.inl rfl⟩)
        · refine z_aload_n F dX6_seek_69 rfl ?_
          refine z_ma F rfl 35 rfl (Nat.le_of_ble_eq_true rfl) rfl q1515 dX6_seek_70 ?_
          refine z_iload F dX6_seek_73 rfl ?_
          refine z_aload_n F dX6_seek_75 rfl ?_
          refine z_iload_n F dX6_seek_76 rfl ?_
          refine z_iload_n F dX6_seek_77 rfl ?_
          refine z_iload_n F dX6_seek_78 rfl ?_
          refine z_iload F dX6_seek_79 rfl ?_
          refine z_callV F (c_mseeks _ _ _ _ kd a b dg h (by omega)) 4 rfl (lw_V q1982 q1984 qs79 q117 q1985) (by decide +kernel) ⟨Nat.le_of_ble_eq_true rfl, Nat.le_of_ble_eq_true rfl⟩ ⟨by omega, by omega⟩ [0, 1] 2 ⟨rfl, rfl, rfl, ⟨Or.inl rfl, Or.inr rfl, trivial⟩⟩ (fun h => nomatch h) (Nat.le_of_ble_eq_true rfl) ⟨⟨Or.inr trivial, Or.inl rfl, trivial⟩, rfl, rfl, rfl, Nat.le_of_ble_eq_true rfl⟩ rfl zC6 (zat_G0 rfl) rfl dX6_seek_81 (fun r_81 w_81 hp => ?_) (fun _ _ h => h.elim)
          obtain ⟨rfl, F1, A1, rfl, f1, f2⟩ := hp
          refine z_weq (w' := [zH, zG _ _ _ _]) rfl ?_
          refine z_seq (S' := zi _ :: _) rfl ?_
          refine z_iconst F (nI 2) dX6_seek_84 rfl ?_
          refine z_iadd F dX6_seek_85 ?_
          refine z_iastGN F rfl rfl (Nat.le_of_ble_eq_true rfl) (by omega) dX6_seek_86 ?_
          refine z_weq (w' := [_, _]) rfl ?_
          refine z_aload_n F dX6_seek_87 rfl ?_
          refine z_ma F rfl 35 rfl (Nat.le_of_ble_eq_true rfl) rfl q1515 dX6_seek_88 ?_
          refine z_iload F dX6_seek_91 rfl ?_
          refine z_ialdGN F rfl rfl (Nat.le_of_ble_eq_true rfl) (by omega) rfl dX6_seek_93 ?_
          refine z_iconst F (nI 2) dX6_seek_94 rfl ?_
          refine z_isub F dX6_seek_95 ?_
          exact z_iret F E rfl dX6_seek_96 (by omega) (by omega) (⟨by
  rw [zup2_row]
  show some (zi ((if _ = _ then _ else _) - nI 2)) = _
  rw [if_pos rfl, Int32.add_sub_cancel], F1, _, rfl, by rw [f1.at 0 rfl]; rfl, (frm_upd (l := [0]) frm.rf (by decide)).tr f1 (by decide) (by decide), frm_zup (f2.to (by decide)) (by decide), fun i => by
  rw [zup2_row]
  show (if i = _ then _ else A1 35 i) = _ ∨ (_ ∧ (if i = _ then _ else A1 35 i) = _)
  by_cases e : i = skAt kd a b dg
  · exact Or.inr ⟨e, if_pos e⟩
  · exact Or.inl ((if_neg e).trans (by rw [f2.at 35 rfl]))⟩)
      · cases c_35
theorem c_mseek_bad (F0 : Nat → Int32) (G : Nat → Int64) (A : Nat → Nat → Int32) (B : Nat → Nat → Int64) (k a b dg : Int32) (h : (grB k a b && inB dg (nI 1) (nI 8)) = false) :
    zCtr yX6_seek cX6_seek 6 (some .int) 4 0 0 [zr 1 0, zi k, zi a, zi b, zi dg] [zH, zG F0 G A B] (fun r w => r = some (zi (nI 0)) ∧ w = [zH, zG (upd F0 0 (nI 1)) G A B]) zNx := by
  refine z_start (by decide) [some (zr 1 0), some (zi k), some (zi a), some (zi b), some (zi dg), none] rfl (fun _ => Nat.le_of_ble_eq_true rfl) (fun _ => rfl) (fun X F E hno hin => ?_)
  refine z_aload_n F dX6_seek_0 rfl ?_
  refine z_iconst F (nI 0) dX6_seek_1 rfl ?_
  refine z_pmi F rfl 0 rfl (Nat.le_of_ble_eq_true rfl) rfl q1480 rfl rfl rfl dX6_seek_2 ?_
  refine z_weq (w' := [_, _]) rfl ?_
  refine z_aload_n F dX6_seek_5 rfl ?_
  refine z_iload_n F dX6_seek_6 rfl ?_
  refine z_iload_n F dX6_seek_7 rfl ?_
  refine z_iload_n F dX6_seek_8 rfl ?_
  refine z_callS F (c_misGroup k a b) 3 rfl (lw_S q1836 q1837 q117 q1838) (by decide +kernel) ⟨Nat.le_of_ble_eq_true rfl, Nat.le_of_ble_eq_true rfl⟩ ⟨by omega, by omega⟩ [0] 2 ⟨rfl, rfl, rfl, ⟨Or.inl rfl, trivial⟩⟩ (fun h => nomatch h) (Nat.le_of_ble_eq_true rfl) ⟨⟨Or.inr trivial, Or.inr trivial, trivial⟩, rfl, rfl, rfl, Nat.le_of_ble_eq_true rfl⟩ rfl rfl dX6_seek_9 (fun r_9 w_9 hp => ?_) (fun _ _ h => h.elim)
  obtain ⟨rfl, rfl⟩ := hp
  refine z_weq (w' := [zH, zG _ _ _ _]) rfl ?_
  refine z_seq (S' := zi _ :: _) rfl ?_
  refine z_if_eqB F (tgt := 30) dX6_seek_12 (by decide) (fun c_12 => ?_) (fun c_12 => ?_)
  · refine z_iconstB F false dX6_seek_30 rfl ?_
    refine z_iconst F (nI 1) dX6_seek_31 rfl ?_
    refine z_callV F (c_right (upd F0 0 (nI 0)) _ _ _ false 1 rfl (by omega) (by omega)) 2 rfl (lw_V q1736 q1738 qs43 q117 q1739) (by decide +kernel) ⟨Nat.le_of_ble_eq_true rfl, Nat.le_of_ble_eq_true rfl⟩ ⟨by omega, by omega⟩ [0, 1] 2 ⟨rfl, rfl, rfl, ⟨Or.inl rfl, Or.inr rfl, trivial⟩⟩ (fun h => nomatch h) (Nat.le_of_ble_eq_true rfl) ⟨⟨Or.inr trivial, Or.inl rfl, trivial⟩, rfl, rfl, rfl, Nat.le_of_ble_eq_true rfl⟩ rfl zC6 (zat_G0 rfl) rfl dX6_seek_32 (fun r_32 w_32 hp => ?_) (fun _ _ h => h.elim)
    obtain ⟨rfl, rfl⟩ := hp
    refine z_weq (w' := [zH, zG _ _ _ _]) rfl ?_
    refine z_seq (S' := zi _ :: _) rfl ?_
    refine z_if_neB F (tgt := 40) dX6_seek_35 (by decide) (fun c_35 => ?_) (fun c_35 => ?_)
    · cases c_35
    · refine z_iconst F (nI 0) dX6_seek_38 rfl ?_
      exact z_iret F E rfl dX6_seek_39 (by omega) (by omega) (⟨rfl, by rw [if_neg (by decide), upd_upd]⟩)
  · refine z_iload F dX6_seek_15 rfl ?_
    refine z_iconst F (nI 1) dX6_seek_17 rfl ?_
    refine z_bipush F (nI 8) dX6_seek_18 rfl ?_
    refine z_callS F (c_within dg (nI 1) (nI 8)) 3 rfl (lw_S q1717 q1718 q117 q1719) (by decide +kernel) ⟨Nat.le_of_ble_eq_true rfl, Nat.le_of_ble_eq_true rfl⟩ ⟨by omega, by omega⟩ [0] 2 ⟨rfl, rfl, rfl, ⟨Or.inl rfl, trivial⟩⟩ (fun h => nomatch h) (Nat.le_of_ble_eq_true rfl) ⟨⟨Or.inr trivial, Or.inr trivial, trivial⟩, rfl, rfl, rfl, Nat.le_of_ble_eq_true rfl⟩ rfl rfl dX6_seek_20 (fun r_20 w_20 hp => ?_) (fun _ _ h => h.elim)
    obtain ⟨rfl, rfl⟩ := hp
    refine z_weq (w' := [zH, zG _ _ _ _]) rfl ?_
    refine z_seq (S' := zi _ :: _) rfl ?_
    refine z_if_eqB F (tgt := 30) dX6_seek_23 (by decide) (fun c_23 => ?_) (fun c_23 => ?_)
    · refine z_iconstB F false dX6_seek_30 rfl ?_
      refine z_iconst F (nI 1) dX6_seek_31 rfl ?_
      refine z_callV F (c_right (upd F0 0 (nI 0)) _ _ _ false 1 rfl (by omega) (by omega)) 2 rfl (lw_V q1736 q1738 qs43 q117 q1739) (by decide +kernel) ⟨Nat.le_of_ble_eq_true rfl, Nat.le_of_ble_eq_true rfl⟩ ⟨by omega, by omega⟩ [0, 1] 2 ⟨rfl, rfl, rfl, ⟨Or.inl rfl, Or.inr rfl, trivial⟩⟩ (fun h => nomatch h) (Nat.le_of_ble_eq_true rfl) ⟨⟨Or.inr trivial, Or.inl rfl, trivial⟩, rfl, rfl, rfl, Nat.le_of_ble_eq_true rfl⟩ rfl zC6 (zat_G0 rfl) rfl dX6_seek_32 (fun r_32 w_32 hp => ?_) (fun _ _ h => h.elim)
      obtain ⟨rfl, rfl⟩ := hp
      refine z_weq (w' := [zH, zG _ _ _ _]) rfl ?_
      refine z_seq (S' := zi _ :: _) rfl ?_
      refine z_if_neB F (tgt := 40) dX6_seek_35 (by decide) (fun c_35 => ?_) (fun c_35 => ?_)
      · cases c_35
      · refine z_iconst F (nI 0) dX6_seek_38 rfl ?_
        exact z_iret F E rfl dX6_seek_39 (by omega) (by omega) (⟨rfl, by rw [if_neg (by decide), upd_upd]⟩)
    · rw [c_12, c_23] at h; cases h
end C9g
