/-! upward: Ways -/
section C93
abbrev wUp (n : Nat) (d jo tr : Int32) (f : Nat → Int32) (M : Nat → Nat → Int32) : List zE := [zH, eWy 2 4 5 6 7 8 9 jo tr, eNet 3 (nI n) d, zAi 0 24 f, zMi 4 0 24 24 M, zH, zH, zH, zH, zH]
abbrev wUq (n : Nat) (d jo tr : Int32) (f : Nat → Int32) (M : Nat → Nat → Int32) (Da Dl : Nat → Int32) : List zE := [zH, eWy 2 4 5 6 7 8 9 jo tr, eNet 3 (nI n) d, zAi 0 24 f, zMi 4 0 24 24 M, zH, zH, zH, zH, zH, zAi 0 48 Da, zAi 0 48 Dl]
theorem c_wisUp (n d0 : Nat) (d jo tr : Int32) (f : Nat → Int32) (M : Nat → Nat → Int32) (r a b : Nat) (h : nok n d0 f) (hc : conn n f (allB n)) (hM : ∀ x y, x < n → y < n → M x y = nI (dN n f x y)) (hr : r < n) (ha : a < n) (hb : b < n) :
    zCtr yX13_isUp cX13_isUp 4 (some .boolean) 0 0 0 [zr 1 0, zi (nI r), zi (nI b), zi (nI a)] (wUp n d jo tr f M) (fun r' w => r' = some (zi (bI (uq n f r a b))) ∧ w = wUp n d jo tr f M) zNx := by
  refine z_start (by decide) [some (zr 1 0), some (zi (nI r)), some (zi (nI b)), some (zi (nI a))] rfl (fun _ => Nat.le_of_ble_eq_true rfl) (fun _ => rfl) (fun X F E hno hin => ?_)
  have hn := h.n24
  have b1 := dst_lt (dN_eq hn hc hr ha) (by omega)
  have b2 := dst_lt (dN_eq hn hc hr hb) (by omega)
  refine z_aload_n F dX13_isUp_0 rfl ?_
  refine z_get F zC13 (f := 2) rfl (Nat.le_of_ble_eq_true rfl) q1320 rfl dX13_isUp_1 ?_
  refine z_iload_n F dX13_isUp_4 rfl ?_
  refine z_aaldMN F rfl (Or.inl rfl) (Nat.le_of_ble_eq_true rfl) (by omega) dX13_isUp_5 ?_
  refine z_iload_n F dX13_isUp_6 rfl ?_
  refine z_ialdMN F rfl (by omega) (Nat.le_of_ble_eq_true rfl) (by omega) rfl dX13_isUp_7 ?_
  refine z_ieq (hM r b hr hb) ?_
  refine z_aload_n F dX13_isUp_8 rfl ?_
  refine z_get F zC13 (f := 2) rfl (Nat.le_of_ble_eq_true rfl) q1320 rfl dX13_isUp_9 ?_
  refine z_iload_n F dX13_isUp_12 rfl ?_
  refine z_aaldMN F rfl (Or.inl rfl) (Nat.le_of_ble_eq_true rfl) (by omega) dX13_isUp_13 ?_
  refine z_iload_n F dX13_isUp_14 rfl ?_
  refine z_ialdMN F rfl (by omega) (Nat.le_of_ble_eq_true rfl) (by omega) rfl dX13_isUp_15 ?_
  refine z_ieq (hM r a hr ha) ?_
  refine z_icmp_eqN F (by omega) (by omega) (tgt := 46) dX13_isUp_16 (by decide) (fun c_16 => ?_) (fun c_16 => ?_)
  · refine z_iload_n F dX13_isUp_46 rfl ?_
    refine z_iload_n F dX13_isUp_47 rfl ?_
    refine z_icmp_geN F (by omega) (by omega) (tgt := 55) dX13_isUp_48 (by decide) (fun c_48 => ?_) (fun c_48 => ?_)
    · refine z_iconstB F false dX13_isUp_55 rfl ?_
      exact z_zret F E rfl (bI_nar _) dX13_isUp_56 (by omega) (by omega) (⟨by rw [uq_f (by omega)], rfl⟩)
    · refine z_iconstB F true dX13_isUp_51 rfl ?_
      refine z_goto F (tgt := 56) dX13_isUp_52 (by decide) ?_
      exact z_zret F E rfl (bI_nar _) dX13_isUp_56 (by omega) (by omega) (⟨by rw [uq_t (by omega)], rfl⟩)
  · refine z_aload_n F dX13_isUp_19 rfl ?_
    refine z_get F zC13 (f := 2) rfl (Nat.le_of_ble_eq_true rfl) q1320 rfl dX13_isUp_20 ?_
    refine z_iload_n F dX13_isUp_23 rfl ?_
    refine z_aaldMN F rfl (Or.inl rfl) (Nat.le_of_ble_eq_true rfl) (by omega) dX13_isUp_24 ?_
    refine z_iload_n F dX13_isUp_25 rfl ?_
    refine z_ialdMN F rfl (by omega) (Nat.le_of_ble_eq_true rfl) (by omega) rfl dX13_isUp_26 ?_
    refine z_ieq (hM r b hr hb) ?_
    refine z_aload_n F dX13_isUp_27 rfl ?_
    refine z_get F zC13 (f := 2) rfl (Nat.le_of_ble_eq_true rfl) q1320 rfl dX13_isUp_28 ?_
    refine z_iload_n F dX13_isUp_31 rfl ?_
    refine z_aaldMN F rfl (Or.inl rfl) (Nat.le_of_ble_eq_true rfl) (by omega) dX13_isUp_32 ?_
    refine z_iload_n F dX13_isUp_33 rfl ?_
    refine z_ialdMN F rfl (by omega) (Nat.le_of_ble_eq_true rfl) (by omega) rfl dX13_isUp_34 ?_
    refine z_ieq (hM r a hr ha) ?_
    refine z_icmp_geN F (by omega) (by omega) (tgt := 42) dX13_isUp_35 (by decide) (fun c_35 => ?_) (fun c_35 => ?_)
    · refine z_iconstB F false dX13_isUp_42 rfl ?_
      refine z_goto F (tgt := 56) dX13_isUp_43 (by decide) ?_
      exact z_zret F E rfl (bI_nar _) dX13_isUp_56 (by omega) (by omega) (⟨by rw [uq_f (by omega)], rfl⟩)
    · refine z_iconstB F true dX13_isUp_38 rfl ?_
      refine z_goto F (tgt := 56) dX13_isUp_39 (by decide) ?_
      exact z_zret F E rfl (bI_nar _) dX13_isUp_56 (by omega) (by omega) (⟨by rw [uq_t (by omega)], rfl⟩)
def wqA (n many : Nat) (D : Nat → Option Nat) (q : Nat → Nat) (Da Dl : Nat → Int32) : Prop := (∀ t, t < 48 → Da t = dI (D t)) ∧ ∀ x, x < many → q x < 2 * n ∧ Dl x = nI (q x)
theorem wqA_put {n many t v : Nat} {D : Nat → Option Nat} {q : Nat → Nat} {Da Dl : Nat → Int32} (h : wqA n many D q Da Dl) (ht : t < 2 * n) : wqA n (many + 1) (oput D t v) (fun x => if x = many then t else q x) (upd Da t (nI v)) (upd Dl many (nI t)) := by
  refine ⟨fun u hu => ?_, fun x hx => ?_⟩
  · show (if u = t then _ else Da u) = dI (if u = t then some v else D u)
    by_cases e : u = t
    · rw [if_pos e, if_pos e]; rfl
    · rw [if_neg e, if_neg e]; exact h.1 u hu
  · show (if x = many then t else q x) < 2 * n ∧ (if x = many then _ else Dl x) = nI (if x = many then t else q x)
    by_cases e : x = many
    · rw [if_pos e, if_pos e]; exact ⟨ht, rfl⟩
    · rw [if_neg e, if_neg e]; exact h.2 x (by omega)
theorem c_wup (n d0 : Nat) (d jo tr : Int32) (f : Nat → Int32) (M : Nat → Nat → Int32) (r s : Nat) (h : nok n d0 f) (hc : conn n f (allB n)) (hM : ∀ x y, x < n → y < n → M x y = nI (dN n f x y)) (hr : r < n) (hs : s < n) :
    zCtr yX13_upward_2 cX13_upward_2 13 (some (.array .int)) 1 3 120 [zr 1 0, zi (nI r), zi (nI s)] (wUp n d jo tr f M) (fun r' w => r' = some (zr 12 0) ∧ ∃ Da Dl R, w = [zH, eWy 2 4 5 6 7 8 9 jo tr, eNet 3 (nI n) d, zAi 0 24 f, zMi 4 0 24 24 M, zH, zH, zH, zH, zH, zAi 0 48 Da, zAi 0 48 Dl, zAi 0 n R] ∧ ∀ b, b < n → R b = ris n f r s b) zNx := by
  refine z_start (by decide) [some (zr 1 0), some (zi (nI r)), some (zi (nI s)), none, none, none, none, none, none, none, none, none, none] rfl (fun _ => Nat.le_of_ble_eq_true rfl) (fun _ => rfl) (fun X F E hno hin => ?_)
  have hn := h.n24
  have hn1 := h.n1
  -- the answer
  have ans : ∀ (Da Dl : Nat → Int32), (∀ t, t < 48 → Da t = dI (Rv (upE n f r) (2 * s) t)) → ∀ (m b : Nat) (R : Nat → Int32), n - b < m → b ≤ n → (∀ x, x < b → R x = ris n f r s x) → Z X [some (zr 1 0), some (zi (nI r)), some (zi (nI s)), some (zr 10 0), some (zr 11 0), none, some (zr 12 0), some (zi (nI b)), none, none, none, none, none] [] (wUq n d jo tr f M Da Dl ++ [zAi 0 n R]) 3 120 213 := by
    intro Da Dl hDa m
    induction m with
    | zero => intro b R hm; omega
    | succ m ih =>
      intro b R hm hb hR
      have nx : ∀ v, b < n → v = ris n f r s b → Z X [some (zr 1 0), some (zi (nI r)), some (zi (nI s)), some (zr 10 0), some (zr 11 0), none, some (zr 12 0), some (zi (nI (b + 1))), none, none, none, none, none] [] (wUq n d jo tr f M Da Dl ++ [zAi 0 n (upd R b v)]) 3 120 213 := fun v hbn e => ih (b + 1) _ (by omega) (by omega) (fun x hx => by
        show (if x = b then v else R x) = _
        by_cases q : x = b
        · rw [if_pos q, q, e]
        · rw [if_neg q]; exact hR x (by omega))
      have e1 : b < n → Da (2 * b) = dI (Rv (upE n f r) (2 * s) (2 * b)) := fun q => hDa _ (by omega)
      have e2 : b < n → Da (2 * b + 1) = dI (Rv (upE n f r) (2 * s) (2 * b + 1)) := fun q => hDa _ (by omega)
      refine z_iload F dX13_upward_2_213 rfl ?_
      refine z_aload_n F dX13_upward_2_215 rfl ?_
      refine z_get F zC13 (f := 0) rfl (Nat.le_of_ble_eq_true rfl) q1317 rfl dX13_upward_2_216 ?_
      refine z_getN F zC5 (f := 0) rfl (Nat.le_of_ble_eq_true rfl) q239 rfl dX13_upward_2_219 ?_
      refine z_icmp_geN F (by omega) (by omega) (tgt := 295) dX13_upward_2_222 (by decide) (fun c_222 => ?_) (fun c_222 => ?_)
      · refine z_aload F dX13_upward_2_295 rfl ?_
        exact z_aret F E rfl (Or.inr ⟨_, rfl⟩) dX13_upward_2_297 (by omega) (by omega) (⟨rfl, Da, Dl, R, rfl, fun x hx => hR x (by omega)⟩)
      · have e1 := e1 (by omega)
        have e2 := e2 (by omega)
        refine z_aload F dX13_upward_2_225 rfl ?_
        refine z_iload F dX13_upward_2_227 rfl ?_
        refine z_aload_n F dX13_upward_2_229 rfl ?_
        refine z_iconst F (nI 2) dX13_upward_2_230 rfl ?_
        refine z_iload F dX13_upward_2_231 rfl ?_
        refine z_imulN F dX13_upward_2_233 ?_
        refine z_ialdN F rfl (Nat.le_of_ble_eq_true rfl) (by omega) rfl dX13_upward_2_234 ?_
        refine z_iconst F (-1) dX13_upward_2_235 rfl ?_
        refine z_icmp_ne F (tgt := 250) dX13_upward_2_236 (by decide) (fun c_236 => ?_) (fun c_236 => ?_)
        · refine z_aload_n F dX13_upward_2_250 rfl ?_
          refine z_iconst F (nI 2) dX13_upward_2_251 rfl ?_
          refine z_iload F dX13_upward_2_252 rfl ?_
          refine z_imulN F dX13_upward_2_254 ?_
          refine z_iconst F (nI 1) dX13_upward_2_255 rfl ?_
          refine z_iaddN F dX13_upward_2_256 ?_
          refine z_ialdN F rfl (Nat.le_of_ble_eq_true rfl) (by omega) rfl dX13_upward_2_257 ?_
          refine z_iconst F (-1) dX13_upward_2_258 rfl ?_
          refine z_icmp_ne F (tgt := 271) dX13_upward_2_259 (by decide) (fun c_259 => ?_) (fun c_259 => ?_)
          · refine z_aload_n F dX13_upward_2_271 rfl ?_
            refine z_iconst F (nI 2) dX13_upward_2_272 rfl ?_
            refine z_iload F dX13_upward_2_273 rfl ?_
            refine z_imulN F dX13_upward_2_275 ?_
            refine z_ialdN F rfl (Nat.le_of_ble_eq_true rfl) (by omega) rfl dX13_upward_2_276 ?_
            refine z_aload_n F dX13_upward_2_277 rfl ?_
            refine z_iconst F (nI 2) dX13_upward_2_278 rfl ?_
            refine z_iload F dX13_upward_2_279 rfl ?_
            refine z_imulN F dX13_upward_2_281 ?_
            refine z_iconst F (nI 1) dX13_upward_2_282 rfl ?_
            refine z_iaddN F dX13_upward_2_283 ?_
            refine z_ialdN F rfl (Nat.le_of_ble_eq_true rfl) (by omega) rfl dX13_upward_2_284 ?_
            refine z_mmin F q1416 dX13_upward_2_285 (Nat.le_of_ble_eq_true rfl) rfl (Nat.le_of_ble_eq_true rfl) ⟨by omega, by omega⟩ ?_
            refine z_iastN F rfl (by omega) (by omega) dX13_upward_2_288 ?_
            refine z_weq (w' := [_, _, _, _, _, _, _, _, _, _, _, _, _]) rfl ?_
            refine z_iincN F 1 dX13_upward_2_289 rfl rfl ?_
            refine z_leq (L' := [_, _, _, _, _, _, _, _, _, _, _, _, _]) rfl ?_
            refine z_goto F (tgt := 213) dX13_upward_2_292 (by decide) ?_
            exact nx _ (by omega) (by unfold ris vmI; rw [← e1, ← e2, if_neg c_236, if_neg c_259])
          · refine z_aload_n F dX13_upward_2_262 rfl ?_
            refine z_iconst F (nI 2) dX13_upward_2_263 rfl ?_
            refine z_iload F dX13_upward_2_264 rfl ?_
            refine z_imulN F dX13_upward_2_266 ?_
            refine z_ialdN F rfl (Nat.le_of_ble_eq_true rfl) (by omega) rfl dX13_upward_2_267 ?_
            refine z_goto F (tgt := 288) dX13_upward_2_268 (by decide) ?_
            refine z_iastN F rfl (by omega) (by omega) dX13_upward_2_288 ?_
            refine z_weq (w' := [_, _, _, _, _, _, _, _, _, _, _, _, _]) rfl ?_
            refine z_iincN F 1 dX13_upward_2_289 rfl rfl ?_
            refine z_leq (L' := [_, _, _, _, _, _, _, _, _, _, _, _, _]) rfl ?_
            refine z_goto F (tgt := 213) dX13_upward_2_292 (by decide) ?_
            exact nx _ (by omega) (by unfold ris vmI; rw [← e1, ← e2, if_neg c_236, if_pos c_259])
        · refine z_aload_n F dX13_upward_2_239 rfl ?_
          refine z_iconst F (nI 2) dX13_upward_2_240 rfl ?_
          refine z_iload F dX13_upward_2_241 rfl ?_
          refine z_imulN F dX13_upward_2_243 ?_
          refine z_iconst F (nI 1) dX13_upward_2_244 rfl ?_
          refine z_iaddN F dX13_upward_2_245 ?_
          refine z_ialdN F rfl (Nat.le_of_ble_eq_true rfl) (by omega) rfl dX13_upward_2_246 ?_
          refine z_goto F (tgt := 288) dX13_upward_2_247 (by decide) ?_
          refine z_iastN F rfl (by omega) (by omega) dX13_upward_2_288 ?_
          refine z_weq (w' := [_, _, _, _, _, _, _, _, _, _, _, _, _]) rfl ?_
          refine z_iincN F 1 dX13_upward_2_289 rfl rfl ?_
          refine z_leq (L' := [_, _, _, _, _, _, _, _, _, _, _, _, _]) rfl ?_
          refine z_goto F (tgt := 213) dX13_upward_2_292 (by decide) ?_
          exact nx _ (by omega) (by unfold ris vmI; rw [← e1, if_pos c_236, e2])
  have inner : ∀ (i p0 c : Nat) (dn : Bool), p0 < 2 * n → (dn = true ↔ p0 % 2 = 1) → (∀ (D : Nat → Option Nat) (q l : Nat → Nat) (many : Nat) (Da Dl : Nat → Int32), bQu (upE n f r) (2 * s) c D q l i many → i < many → q i = p0 → wqA n many D q Da Dl → (∀ t, upE n f r p0 t → ∃ j, D t = some j) → Z X [some (zr 1 0), some (zi (nI r)), some (zi (nI s)), some (zr 10 0), some (zr 11 0), some (zi (nI many)), some (zi (nI i)), none, none, none, none, none, none] [] (wUq n d jo tr f M Da Dl) 2 96 193) →
      ∀ (m : Nat) (y : Int32) (x : Nat) (D : Nat → Option Nat) (q l : Nat → Nat) (many : Nat) (Da Dl : Nat → Int32), pc32 y < m → x ≤ n → upto (f (p0 / 2)) x y → bQu (upE n f r) (2 * s) c D q l i many → i < many → q i = p0 → wqA n many D q Da Dl → (∀ t, upE n f r p0 t → t / 2 < x → ∃ j, D t = some j) → Z X [some (zr 1 0), some (zi (nI r)), some (zi (nI s)), some (zr 10 0), some (zr 11 0), some (zi (nI many)), some (zi (nI i)), some (zi (nI (p0 / 2))), some (zi (bI dn)), some (zi y), none, none, none] [] (wUq n d jo tr f M Da Dl) 2 96 97 := by
    intro i p0 c dn hp0 hdn kk m
    induction m with
    | zero => intro y x D q l many Da Dl hm; omega
    | succ m ih =>
      intro y x D q l many Da Dl hm hx hu hQ him hqi hA hcov
      have hmany := hQ.le (fun x hx => (hA.2 x hx).1)
      have lt1 : ∀ t j, D t = some j → j < 100 := fun t j z => by have := hQ.bd z; omega
      have back : ∀ (b : Nat) (D : Nat → Option Nat) (q l : Nat → Nat) (many : Nat) (Da Dl : Nat → Int32), b < n → upto (f (p0 / 2)) (b + 1) (y &&& (y - nI 1)) → pc32 (y &&& (y - nI 1)) < m → bQu (upE n f r) (2 * s) c D q l i many → i < many → q i = p0 → wqA n many D q Da Dl → (∀ t, upE n f r p0 t → t / 2 < b + 1 → ∃ j, D t = some j) → Z X [some (zr 1 0), some (zi (nI r)), some (zi (nI s)), some (zr 10 0), some (zr 11 0), some (zi (nI many)), some (zi (nI i)), some (zi (nI (p0 / 2))), some (zi (bI dn)), some (zi y), none, none, none] [] (wUq n d jo tr f M Da Dl) 2 96 181 := by
        intro b D q l many Da Dl hb hu2 hpc h1 h2 h3 h4 h5
        refine z_iload F dX13_upward_2_181 rfl ?_
        refine z_iload F dX13_upward_2_183 rfl ?_
        refine z_iconst F (nI 1) dX13_upward_2_185 rfl ?_
        refine z_isub F dX13_upward_2_186 ?_
        refine z_iand F dX13_upward_2_187 ?_
        refine z_istore F dX13_upward_2_188 (Nat.le_of_ble_eq_true rfl) ?_
        refine z_leq (L' := [_, _, _, _, _, _, _, _, _, _, _, _, _]) rfl ?_
        refine z_goto F (tgt := 97) dX13_upward_2_190 (by decide) ?_
        exact ih _ (b + 1) D q l many Da Dl hpc (by omega) hu2 h1 h2 h3 h4 h5
      refine z_iload F dX13_upward_2_97 rfl ?_
      refine z_if_eq F (tgt := 193) dX13_upward_2_99 (by decide) (fun c_99 => ?_) (fun c_99 => ?_)
      · subst c_99
        refine z_loc _ ?_ (kk D q l many Da Dl hQ him hqi hA (fun t ht => hcov t ht (Nat.lt_of_not_le fun z => by
          have h1 := upto_end hu (t / 2) z (by have := ht.1; omega)
          rw [ht.2.1] at h1; cases h1)))
        exact ⟨rfl, rfl, rfl, rfl, rfl, rfl, rfl, trivial⟩
      · obtain ⟨b, hb, hxb, hS, hSk, hy1, hy0, hu2, hpc⟩ := upto_low hu c_99
        have hbn : b < n := Nat.lt_of_not_le fun z => by
          have := h.out (show p0 / 2 < n by omega) z
          rw [this] at hS; cases hS
        have hcov2 : ∀ t, upE n f r p0 t → t / 2 < b → ∃ j, D t = some j := fun t ht hb2 => by
          by_cases z : t / 2 < x
          · exact hcov t ht z
          · have h1 := hSk (t / 2) (by omega) hb2
            rw [ht.2.1] at h1; cases h1
        have det : ∀ t, upE n f r p0 t → t / 2 = b → t = 2 * b + (if uq n f r (p0 / 2) b = true then 0 else 1) ∧ ¬ (p0 % 2 = 1 ∧ uq n f r (p0 / 2) b = true) := fun t ht z => by
          obtain ⟨t1, t2, t3, t4⟩ := ht
          rw [z] at t3 t4
          exact ⟨by rw [← t3]; omega, t4⟩
        have skip : (∀ t, upE n f r p0 t → t / 2 = b → ∃ j, D t = some j) → Z X [some (zr 1 0), some (zi (nI r)), some (zi (nI s)), some (zr 10 0), some (zr 11 0), some (zi (nI many)), some (zi (nI i)), some (zi (nI (p0 / 2))), some (zi (bI dn)), some (zi y), none, none, none] [] (wUq n d jo tr f M Da Dl) 2 96 181 := fun z => back b D q l many Da Dl hbn hu2 (by omega) hQ him hqi hA (fun t ht h2 => by
          by_cases z2 : t / 2 = b
          · exact z t ht z2
          · exact hcov2 t ht (by omega))
        have put : ∀ (t0 : Nat), t0 < 2 * n → t0 / 2 = b → D t0 = none → upE n f r p0 t0 → (∀ t, upE n f r p0 t → t / 2 = b → t = t0) → many < 2 * n ∧ Z X [some (zr 1 0), some (zi (nI r)), some (zi (nI s)), some (zr 10 0), some (zr 11 0), some (zi (nI (many + 1))), some (zi (nI i)), some (zi (nI (p0 / 2))), some (zi (bI dn)), some (zi y), none, none, none] [] (wUq n d jo tr f M (upd Da t0 (nI (c + 1))) (upd Dl many (nI t0))) 2 96 181 := fun t0 z1 z2 z3 z4 z5 => ⟨hQ.lt (fun x hx => (hA.2 x hx).1) z1 z3, back b _ _ _ _ _ _ hbn hu2 (by omega) (hQ.put him (by rw [hqi]; exact z4) z3) (by omega) ((if_neg (by omega)).trans hqi) (wqA_put hA z1) (fun t ht h2 => by
          by_cases z6 : t / 2 = b
          · exact ⟨c + 1, if_pos (z5 t ht z6)⟩
          · obtain ⟨j, hj⟩ := hcov2 t ht (by omega)
            exact ⟨j, (if_neg (fun z => z6 (by rw [z]; exact z2))).trans hj⟩)⟩
        have hDp : D p0 = some c := by rw [← hqi, hQ.lv i him, hQ.hi him]
        have gl : Dl i = nI p0 := by rw [(hA.2 i him).2, hqi]
        have gd : Da p0 = nI c := by rw [hA.1 p0 (by omega), hDp]; rfl
        refine z_iload F dX13_upward_2_102 rfl ?_
        refine z_callS F (c_ntz y b (by omega) hy1 hy0) 1 rfl (lw_S q1411 q808 q123 q809) (by decide +kernel) ⟨Nat.le_of_ble_eq_true rfl, Nat.le_of_ble_eq_true rfl⟩ ⟨by omega, by omega⟩ [0] 12 ⟨rfl, rfl, rfl, ⟨Or.inl rfl, trivial⟩⟩ (fun h => nomatch h) (Nat.le_of_ble_eq_true rfl) ⟨⟨Or.inr trivial, Or.inr rfl, Or.inr rfl, Or.inr trivial, Or.inr trivial, Or.inr trivial, Or.inr trivial, Or.inr trivial, Or.inr trivial, Or.inr trivial, Or.inr trivial, Or.inr trivial, trivial⟩, rfl, rfl, rfl, Nat.le_of_ble_eq_true rfl⟩ rfl rfl dX13_upward_2_104 (fun r_104 w_104 hp => ?_) (fun _ _ h => h.elim)
        obtain ⟨rfl, rfl⟩ := hp
        refine z_weq (w' := [zH, zO _ [zr _ _, zi _, zr _ _, zr _ _, zr _ _, zr _ _, zr _ _, zr _ _, zi _], zO _ [zi _, zi _, zr _ _], zAi 0 24 _, zMi 4 0 24 24 _, zH, zH, zH, zH, zH, zAi 0 48 _, zAi 0 48 _]) rfl ?_
        refine z_seq (S' := zi _ :: _) rfl ?_
        refine z_istore F dX13_upward_2_107 (Nat.le_of_ble_eq_true rfl) ?_
        refine z_leq (L' := [_, _, _, _, _, _, _, _, _, _, _, _, _]) rfl ?_
        refine z_aload_n F dX13_upward_2_109 rfl ?_
        refine z_iload_n F dX13_upward_2_110 rfl ?_
        refine z_iload F dX13_upward_2_111 rfl ?_
        refine z_iload F dX13_upward_2_113 rfl ?_
        refine z_callV F (c_wisUp n d0 d jo tr f M r (p0 / 2) b h hc hM hr (by omega) hbn) 3 rfl (lw_V q1412 q1414 qs38 q141 q1415) (by decide +kernel) ⟨Nat.le_of_ble_eq_true rfl, Nat.le_of_ble_eq_true rfl⟩ ⟨by omega, by omega⟩ [0, 1, 2, 3, 4, 5, 6, 7, 8, 9] 12 ⟨rfl, rfl, rfl, ⟨Or.inl rfl, Or.inr rfl, Or.inr rfl, Or.inr rfl, Or.inr rfl, Or.inl rfl, Or.inl rfl, Or.inl rfl, Or.inl rfl, Or.inl rfl, trivial⟩⟩ (fun h => nomatch h) (Nat.le_of_ble_eq_true rfl) ⟨⟨Or.inr trivial, Or.inl rfl, Or.inl rfl, Or.inl rfl, Or.inl rfl, Or.inr trivial, Or.inr trivial, Or.inr trivial, Or.inr trivial, Or.inr trivial, Or.inr trivial, Or.inr trivial, trivial⟩, rfl, rfl, rfl, Nat.le_of_ble_eq_true rfl⟩ rfl zC13 rfl rfl dX13_upward_2_115 (fun r_115 w_115 hp => ?_) (fun _ _ h => h.elim)
        obtain ⟨rfl, rfl⟩ := hp
        refine z_weq (w' := [zH, zO _ [zr _ _, zi _, zr _ _, zr _ _, zr _ _, zr _ _, zr _ _, zr _ _, zi _], zO _ [zi _, zi _, zr _ _], zAi 0 24 _, zMi 4 0 24 24 _, zH, zH, zH, zH, zH, zAi 0 48 _, zAi 0 48 _]) rfl ?_
        refine z_seq (S' := zi _ :: _) rfl ?_
        refine z_istore F dX13_upward_2_118 (Nat.le_of_ble_eq_true rfl) ?_
        refine z_leq (L' := [_, _, _, _, _, _, _, _, _, _, _, _, _]) rfl ?_
        refine z_iconst F (nI 2) dX13_upward_2_120 rfl ?_
        refine z_iload F dX13_upward_2_121 rfl ?_
        refine z_imulN F dX13_upward_2_123 ?_
        refine z_iload F dX13_upward_2_124 rfl ?_
        refine z_if_eqB F (tgt := 133) dX13_upward_2_126 (by decide) (fun c_126 => ?_) (fun c_126 => ?_)
        · have gp := hA.1 (2 * b + 1) (by omega)
          refine z_iconst F (nI 1) dX13_upward_2_133 rfl ?_
          refine z_iaddN F dX13_upward_2_134 ?_
          refine z_istore F dX13_upward_2_135 (Nat.le_of_ble_eq_true rfl) ?_
          refine z_leq (L' := [_, _, _, _, _, _, _, _, _, _, _, _, _]) rfl ?_
          refine z_iload F dX13_upward_2_137 rfl ?_
          refine z_if_eqB F (tgt := 147) dX13_upward_2_139 (by decide) (fun c_139 => ?_) (fun c_139 => ?_)
          · refine z_aload_n F dX13_upward_2_147 rfl ?_
            refine z_iload F dX13_upward_2_148 rfl ?_
            refine z_ialdN F rfl (Nat.le_of_ble_eq_true rfl) (by omega) rfl dX13_upward_2_150 ?_
            refine z_iconst F (-1) dX13_upward_2_151 rfl ?_
            refine z_icmp_eq F (tgt := 158) dX13_upward_2_152 (by decide) (fun c_152 => ?_) (fun c_152 => ?_)
            · have no : D (2 * b + 1) = none := (dI_nn (fun j => lt1 _ j)).mp (by rw [← gp]; exact c_152)
              obtain ⟨hml, pp⟩ := put (2 * b + 1) (by omega) (by omega) no ⟨by omega, by rw [show (2 * b + 1) / 2 = b by omega]; exact hS, by rw [show (2 * b + 1) / 2 = b by omega, c_126, if_neg (by decide)]; omega, by rw [show (2 * b + 1) / 2 = b by omega, c_126]; simp⟩ (fun t ht z => by
                have hx := (det t ht z).1
                rw [c_126, if_neg (by decide)] at hx; exact hx)
              refine z_aload_n F dX13_upward_2_158 rfl ?_
              refine z_iload F dX13_upward_2_159 rfl ?_
              refine z_aload_n F dX13_upward_2_161 rfl ?_
              refine z_aload F dX13_upward_2_162 rfl ?_
              refine z_iload F dX13_upward_2_164 rfl ?_
              refine z_ialdN F rfl (Nat.le_of_ble_eq_true rfl) (by omega) rfl dX13_upward_2_166 ?_
              refine z_ieq (gl) ?_
              refine z_ialdN F rfl (Nat.le_of_ble_eq_true rfl) (by omega) rfl dX13_upward_2_167 ?_
              refine z_ieq (gd) ?_
              refine z_iconst F (nI 1) dX13_upward_2_168 rfl ?_
              refine z_iaddN F dX13_upward_2_169 ?_
              refine z_iastN F rfl (Nat.le_of_ble_eq_true rfl) (by omega) dX13_upward_2_170 ?_
              refine z_weq (w' := [_, _, _, _, _, _, _, _, _, _, _, _]) rfl ?_
              refine z_aload F dX13_upward_2_171 rfl ?_
              refine z_iload F dX13_upward_2_173 rfl ?_
              refine z_iload F dX13_upward_2_175 rfl ?_
              refine z_iastN F rfl (Nat.le_of_ble_eq_true rfl) (by omega) dX13_upward_2_177 ?_
              refine z_weq (w' := [_, _, _, _, _, _, _, _, _, _, _, _]) rfl ?_
              refine z_iincN F 1 dX13_upward_2_178 rfl rfl ?_
              refine z_leq (L' := [_, _, _, _, _, _, _, _, _, _, _, _, _]) rfl ?_
              refine z_loc _ ?_ pp
              exact ⟨rfl, rfl, rfl, rfl, rfl, rfl, rfl, rfl, rfl, rfl, trivial⟩
            · refine z_goto F (tgt := 181) dX13_upward_2_155 (by decide) ?_
              refine z_loc _ ?_ (skip (fun t ht z => by
                have hx := (det t ht z).1
                cases e9 : D t with
                | some j => exact ⟨j, rfl⟩
                | none =>
                  exfalso
                  rw [c_126] at hx
                  first
                  | (rw [if_pos rfl] at hx; exact c_152 (by rw [gp, ← (show t = 2 * b from hx), e9]; rfl))
                  | (rw [if_neg (by decide)] at hx; exact c_152 (by rw [gp, ← hx, e9]; rfl))))
              exact ⟨rfl, rfl, rfl, rfl, rfl, rfl, rfl, rfl, rfl, rfl, trivial⟩
          · refine z_iload F dX13_upward_2_142 rfl ?_
            refine z_if_neB F (tgt := 181) dX13_upward_2_144 (by decide) (fun c_144 => ?_) (fun c_144 => ?_)
            · rw [c_126] at c_144; cases c_144
            · refine z_aload_n F dX13_upward_2_147 rfl ?_
              refine z_iload F dX13_upward_2_148 rfl ?_
              refine z_ialdN F rfl (Nat.le_of_ble_eq_true rfl) (by omega) rfl dX13_upward_2_150 ?_
              refine z_iconst F (-1) dX13_upward_2_151 rfl ?_
              refine z_icmp_eq F (tgt := 158) dX13_upward_2_152 (by decide) (fun c_152 => ?_) (fun c_152 => ?_)
              · have no : D (2 * b + 1) = none := (dI_nn (fun j => lt1 _ j)).mp (by rw [← gp]; exact c_152)
                obtain ⟨hml, pp⟩ := put (2 * b + 1) (by omega) (by omega) no ⟨by omega, by rw [show (2 * b + 1) / 2 = b by omega]; exact hS, by rw [show (2 * b + 1) / 2 = b by omega, c_126, if_neg (by decide)]; omega, by rw [show (2 * b + 1) / 2 = b by omega, c_126]; simp⟩ (fun t ht z => by
                  have hx := (det t ht z).1
                  rw [c_126, if_neg (by decide)] at hx; exact hx)
                refine z_aload_n F dX13_upward_2_158 rfl ?_
                refine z_iload F dX13_upward_2_159 rfl ?_
                refine z_aload_n F dX13_upward_2_161 rfl ?_
                refine z_aload F dX13_upward_2_162 rfl ?_
                refine z_iload F dX13_upward_2_164 rfl ?_
                refine z_ialdN F rfl (Nat.le_of_ble_eq_true rfl) (by omega) rfl dX13_upward_2_166 ?_
                refine z_ieq (gl) ?_
                refine z_ialdN F rfl (Nat.le_of_ble_eq_true rfl) (by omega) rfl dX13_upward_2_167 ?_
                refine z_ieq (gd) ?_
                refine z_iconst F (nI 1) dX13_upward_2_168 rfl ?_
                refine z_iaddN F dX13_upward_2_169 ?_
                refine z_iastN F rfl (Nat.le_of_ble_eq_true rfl) (by omega) dX13_upward_2_170 ?_
                refine z_weq (w' := [_, _, _, _, _, _, _, _, _, _, _, _]) rfl ?_
                refine z_aload F dX13_upward_2_171 rfl ?_
                refine z_iload F dX13_upward_2_173 rfl ?_
                refine z_iload F dX13_upward_2_175 rfl ?_
                refine z_iastN F rfl (Nat.le_of_ble_eq_true rfl) (by omega) dX13_upward_2_177 ?_
                refine z_weq (w' := [_, _, _, _, _, _, _, _, _, _, _, _]) rfl ?_
                refine z_iincN F 1 dX13_upward_2_178 rfl rfl ?_
                refine z_leq (L' := [_, _, _, _, _, _, _, _, _, _, _, _, _]) rfl ?_
                refine z_loc _ ?_ pp
                exact ⟨rfl, rfl, rfl, rfl, rfl, rfl, rfl, rfl, rfl, rfl, trivial⟩
              · refine z_goto F (tgt := 181) dX13_upward_2_155 (by decide) ?_
                refine z_loc _ ?_ (skip (fun t ht z => by
                  have hx := (det t ht z).1
                  cases e9 : D t with
                  | some j => exact ⟨j, rfl⟩
                  | none =>
                    exfalso
                    rw [c_126] at hx
                    first
                    | (rw [if_pos rfl] at hx; exact c_152 (by rw [gp, ← (show t = 2 * b from hx), e9]; rfl))
                    | (rw [if_neg (by decide)] at hx; exact c_152 (by rw [gp, ← hx, e9]; rfl))))
                exact ⟨rfl, rfl, rfl, rfl, rfl, rfl, rfl, rfl, rfl, rfl, trivial⟩
        · have gp : Da (2 * b + 0) = dI (D (2 * b)) := hA.1 (2 * b) (by omega)
          refine z_iconst F (nI 0) dX13_upward_2_129 rfl ?_
          refine z_goto F (tgt := 134) dX13_upward_2_130 (by decide) ?_
          refine z_iaddN F dX13_upward_2_134 ?_
          refine z_istore F dX13_upward_2_135 (Nat.le_of_ble_eq_true rfl) ?_
          refine z_leq (L' := [_, _, _, _, _, _, _, _, _, _, _, _, _]) rfl ?_
          refine z_iload F dX13_upward_2_137 rfl ?_
          refine z_if_eqB F (tgt := 147) dX13_upward_2_139 (by decide) (fun c_139 => ?_) (fun c_139 => ?_)
          · refine z_aload_n F dX13_upward_2_147 rfl ?_
            refine z_iload F dX13_upward_2_148 rfl ?_
            refine z_ialdN F rfl (Nat.le_of_ble_eq_true rfl) (by omega) rfl dX13_upward_2_150 ?_
            refine z_iconst F (-1) dX13_upward_2_151 rfl ?_
            refine z_icmp_eq F (tgt := 158) dX13_upward_2_152 (by decide) (fun c_152 => ?_) (fun c_152 => ?_)
            · have no : D (2 * b) = none := (dI_nn (fun j => lt1 _ j)).mp (by rw [← gp]; exact c_152)
              obtain ⟨hml, pp⟩ := put (2 * b) (by omega) (by omega) no ⟨by omega, by rw [show 2 * b / 2 = b by omega]; exact hS, by rw [show 2 * b / 2 = b by omega, c_126, if_pos rfl]; omega, fun z => by rw [hdn.mpr z.1] at c_139; cases c_139⟩ (fun t ht z => by
                have hx := (det t ht z).1
                rw [c_126, if_pos rfl] at hx; exact hx)
              refine z_aload_n F dX13_upward_2_158 rfl ?_
              refine z_iload F dX13_upward_2_159 rfl ?_
              refine z_aload_n F dX13_upward_2_161 rfl ?_
              refine z_aload F dX13_upward_2_162 rfl ?_
              refine z_iload F dX13_upward_2_164 rfl ?_
              refine z_ialdN F rfl (Nat.le_of_ble_eq_true rfl) (by omega) rfl dX13_upward_2_166 ?_
              refine z_ieq (gl) ?_
              refine z_ialdN F rfl (Nat.le_of_ble_eq_true rfl) (by omega) rfl dX13_upward_2_167 ?_
              refine z_ieq (gd) ?_
              refine z_iconst F (nI 1) dX13_upward_2_168 rfl ?_
              refine z_iaddN F dX13_upward_2_169 ?_
              refine z_iastN F rfl (Nat.le_of_ble_eq_true rfl) (by omega) dX13_upward_2_170 ?_
              refine z_weq (w' := [_, _, _, _, _, _, _, _, _, _, _, _]) rfl ?_
              refine z_aload F dX13_upward_2_171 rfl ?_
              refine z_iload F dX13_upward_2_173 rfl ?_
              refine z_iload F dX13_upward_2_175 rfl ?_
              refine z_iastN F rfl (Nat.le_of_ble_eq_true rfl) (by omega) dX13_upward_2_177 ?_
              refine z_weq (w' := [_, _, _, _, _, _, _, _, _, _, _, _]) rfl ?_
              refine z_iincN F 1 dX13_upward_2_178 rfl rfl ?_
              refine z_leq (L' := [_, _, _, _, _, _, _, _, _, _, _, _, _]) rfl ?_
              refine z_loc _ ?_ pp
              exact ⟨rfl, rfl, rfl, rfl, rfl, rfl, rfl, rfl, rfl, rfl, trivial⟩
            · refine z_goto F (tgt := 181) dX13_upward_2_155 (by decide) ?_
              refine z_loc _ ?_ (skip (fun t ht z => by
                have hx := (det t ht z).1
                cases e9 : D t with
                | some j => exact ⟨j, rfl⟩
                | none =>
                  exfalso
                  rw [c_126] at hx
                  first
                  | (rw [if_pos rfl] at hx; exact c_152 (by rw [gp, ← (show t = 2 * b from hx), e9]; rfl))
                  | (rw [if_neg (by decide)] at hx; exact c_152 (by rw [gp, ← hx, e9]; rfl))))
              exact ⟨rfl, rfl, rfl, rfl, rfl, rfl, rfl, rfl, rfl, rfl, trivial⟩
          · refine z_iload F dX13_upward_2_142 rfl ?_
            refine z_if_neB F (tgt := 181) dX13_upward_2_144 (by decide) (fun c_144 => ?_) (fun c_144 => ?_)
            · refine z_loc _ ?_ (skip (fun t ht z => absurd ⟨hdn.mp c_139, c_144⟩ (det t ht z).2))
              exact ⟨rfl, rfl, rfl, rfl, rfl, rfl, rfl, rfl, rfl, rfl, trivial⟩
            · rw [c_126] at c_144; cases c_144
  have outer : ∀ (m i c : Nat) (D : Nat → Option Nat) (q l : Nat → Nat) (many : Nat) (Da Dl : Nat → Int32), 49 - i < m → bQu (upE n f r) (2 * s) c D q l i many → wqA n many D q Da Dl → Z X [some (zr 1 0), some (zi (nI r)), some (zi (nI s)), some (zr 10 0), some (zr 11 0), some (zi (nI many)), some (zi (nI i)), none, none, none, none, none, none] [] (wUq n d jo tr f M Da Dl) 2 96 51 := by
    intro m
    induction m with
    | zero => intro i c D q l many Da Dl hm hQ hA; have := hQ.le (fun x hx => (hA.2 x hx).1); have := hQ.im; omega
    | succ m ih =>
      intro i c D q l many Da Dl hm hQ hA
      have hmany := hQ.le (fun x hx => (hA.2 x hx).1)
      have him := hQ.im
      have gl : i < many → Dl i = nI (q i) := fun z => (hA.2 i z).2
      have gq : i < many → q i < 2 * n := fun z => (hA.2 i z).1
      have back : ∀ (D : Nat → Option Nat) (q l : Nat → Nat) (many : Nat) (Da Dl : Nat → Int32), bQu (upE n f r) (2 * s) c D q l i many → i < many → wqA n many D q Da Dl → (∀ t, upE n f r (q i) t → ∃ j, D t = some j) → Z X [some (zr 1 0), some (zi (nI r)), some (zi (nI s)), some (zr 10 0), some (zr 11 0), some (zi (nI many)), some (zi (nI i)), none, none, none, none, none, none] [] (wUq n d jo tr f M Da Dl) 2 96 193 := by
        intro D q l many Da Dl h1 h2 h3 h4
        have hmany := h1.le (fun x hx => (h3.2 x hx).1)
        obtain ⟨c', hQ2⟩ := h1.next h2 h4
        refine z_iincN F 1 dX13_upward_2_193 rfl rfl ?_
        refine z_leq (L' := [_, _, _, _, _, _, _, _, _, _, _, _, _]) rfl ?_
        refine z_goto F (tgt := 51) dX13_upward_2_196 (by decide) ?_
        exact ih (i + 1) c' D q l many Da Dl (by omega) hQ2 h3
      refine z_iload F dX13_upward_2_51 rfl ?_
      refine z_iload F dX13_upward_2_53 rfl ?_
      refine z_icmp_geN F (by omega) (by omega) (tgt := 199) dX13_upward_2_55 (by decide) (fun c_55 => ?_) (fun c_55 => ?_)
      · have hfin := hQ.fin (by omega)
        refine z_aload_n F dX13_upward_2_199 rfl ?_
        refine z_get F zC13 (f := 0) rfl (Nat.le_of_ble_eq_true rfl) q1317 rfl dX13_upward_2_200 ?_
        refine z_getN F zC5 (f := 0) rfl (Nat.le_of_ble_eq_true rfl) q239 rfl dX13_upward_2_203 ?_
        refine z_newaI F n 12 q174 (nI_pos (by omega)) (zcl_n (by omega)) (by omega) rfl (Nat.le_of_ble_eq_true rfl) ⟨trivial, rfl, rfl, trivial, trivial, trivial, trivial, trivial, trivial, trivial, trivial, trivial, trivial⟩ rfl rfl ⟨by omega, by omega⟩ dX13_upward_2_206 ?_
        refine z_weq (w' := [_, _, _, _, _, _, _, _, _, _, _, _, _]) rfl ?_
        refine z_widen (k' := 3) (n' := 120) (by omega) (by omega) ?_
        refine z_astore F dX13_upward_2_208 (Nat.le_of_ble_eq_true rfl) ?_
        refine z_leq (L' := [_, _, _, _, _, _, _, _, _, _, _, _, _]) rfl ?_
        refine z_iconst F (nI 0) dX13_upward_2_210 rfl ?_
        refine z_istore F dX13_upward_2_211 (Nat.le_of_ble_eq_true rfl) ?_
        refine z_leq (L' := [_, _, _, _, _, _, _, _, _, _, _, _, _]) rfl ?_
        refine z_loc _ ?_ (ans Da Dl (fun t ht => by rw [hA.1 t ht, hfin]) (n + 1) 0 _ (by omega) (by omega) (fun x hx => absurd hx (by omega)))
        exact ⟨rfl, rfl, rfl, rfl, rfl, rfl, rfl, trivial⟩
      · have gl := gl (by omega)
        have gq := gq (by omega)
        refine z_aload F dX13_upward_2_58 rfl ?_
        refine z_iload F dX13_upward_2_60 rfl ?_
        refine z_ialdN F rfl (Nat.le_of_ble_eq_true rfl) (by omega) rfl dX13_upward_2_62 ?_
        refine z_ieq (gl) ?_
        refine z_iconst F (nI 2) dX13_upward_2_63 rfl ?_
        refine z_idivN F (by omega) (by omega) (by omega) dX13_upward_2_64 ?_
        refine z_istore F dX13_upward_2_65 (Nat.le_of_ble_eq_true rfl) ?_
        refine z_leq (L' := [_, _, _, _, _, _, _, _, _, _, _, _, _]) rfl ?_
        refine z_aload F dX13_upward_2_67 rfl ?_
        refine z_iload F dX13_upward_2_69 rfl ?_
        refine z_ialdN F rfl (Nat.le_of_ble_eq_true rfl) (by omega) rfl dX13_upward_2_71 ?_
        refine z_ieq (gl) ?_
        refine z_iconst F (nI 2) dX13_upward_2_72 rfl ?_
        refine z_iremN F (by omega) (by omega) (by omega) dX13_upward_2_73 ?_
        refine z_iconst F (nI 1) dX13_upward_2_74 rfl ?_
        refine z_icmp_neN F (by omega) (by omega) (tgt := 82) dX13_upward_2_75 (by decide) (fun c_75 => ?_) (fun c_75 => ?_)
        · refine z_iconstB F false dX13_upward_2_82 rfl ?_
          refine z_istore F dX13_upward_2_83 (Nat.le_of_ble_eq_true rfl) ?_
          refine z_leq (L' := [_, _, _, _, _, _, _, _, _, _, _, _, _]) rfl ?_
          refine z_aload_n F dX13_upward_2_85 rfl ?_
          refine z_get F zC13 (f := 0) rfl (Nat.le_of_ble_eq_true rfl) q1317 rfl dX13_upward_2_86 ?_
          refine z_getN F zC5 (f := 2) rfl (Nat.le_of_ble_eq_true rfl) q255 rfl dX13_upward_2_89 ?_
          refine z_iload F dX13_upward_2_92 rfl ?_
          refine z_ialdN F rfl (Nat.le_of_ble_eq_true rfl) (by omega) rfl dX13_upward_2_94 ?_
          refine z_istore F dX13_upward_2_95 (Nat.le_of_ble_eq_true rfl) ?_
          refine z_leq (L' := [_, _, _, _, _, _, _, _, _, _, _, _, _]) rfl ?_
          exact inner i (q i) c false gq ⟨fun z => (by cases z), fun z => absurd z (by omega)⟩ (fun D q2 l many Da Dl h1 h2 h3 h4 h5 => back D q2 l many Da Dl h1 h2 h4 (by rw [h3]; exact h5)) _ _ 0 D q l many Da Dl (Nat.lt_succ_self _) (by omega) (upto_0 _) hQ (by omega) rfl hA (fun t _ z => absurd z (by omega))
        · refine z_iconstB F true dX13_upward_2_78 rfl ?_
          refine z_goto F (tgt := 83) dX13_upward_2_79 (by decide) ?_
          refine z_istore F dX13_upward_2_83 (Nat.le_of_ble_eq_true rfl) ?_
          refine z_leq (L' := [_, _, _, _, _, _, _, _, _, _, _, _, _]) rfl ?_
          refine z_aload_n F dX13_upward_2_85 rfl ?_
          refine z_get F zC13 (f := 0) rfl (Nat.le_of_ble_eq_true rfl) q1317 rfl dX13_upward_2_86 ?_
          refine z_getN F zC5 (f := 2) rfl (Nat.le_of_ble_eq_true rfl) q255 rfl dX13_upward_2_89 ?_
          refine z_iload F dX13_upward_2_92 rfl ?_
          refine z_ialdN F rfl (Nat.le_of_ble_eq_true rfl) (by omega) rfl dX13_upward_2_94 ?_
          refine z_istore F dX13_upward_2_95 (Nat.le_of_ble_eq_true rfl) ?_
          refine z_leq (L' := [_, _, _, _, _, _, _, _, _, _, _, _, _]) rfl ?_
          exact inner i (q i) c true gq ⟨fun _ => by omega, fun _ => rfl⟩ (fun D q2 l many Da Dl h1 h2 h3 h4 h5 => back D q2 l many Da Dl h1 h2 h4 (by rw [h3]; exact h5)) _ _ 0 D q l many Da Dl (Nat.lt_succ_self _) (by omega) (upto_0 _) hQ (by omega) rfl hA (fun t _ z => absurd z (by omega))
  have fill : ∀ (m k : Nat) (Da : Nat → Int32), 48 - k < m → k ≤ 48 → (∀ x, x < k → Da x = -1) → Z X [some (zr 1 0), some (zi (nI r)), some (zi (nI s)), some (zr 10 0), some (zr 11 0), some (zi (nI k)), none, none, none, none, none, none, none] [] (wUq n d jo tr f M Da (fun _ => 0)) 2 96 14 := by
    intro m
    induction m with
    | zero => intro k Da hm; omega
    | succ m ih =>
      intro k Da hm hk hD
      refine z_iload F dX13_upward_2_14 rfl ?_
      refine z_bipush F (nI 48) dX13_upward_2_16 rfl ?_
      refine z_icmp_geN F (by omega) (by omega) (tgt := 32) dX13_upward_2_18 (by decide) (fun c_18 => ?_) (fun c_18 => ?_)
      · refine z_iconst F (nI 1) dX13_upward_2_32 rfl ?_
        refine z_istore F dX13_upward_2_33 (Nat.le_of_ble_eq_true rfl) ?_
        refine z_leq (L' := [_, _, _, _, _, _, _, _, _, _, _, _, _]) rfl ?_
        refine z_aload F dX13_upward_2_35 rfl ?_
        refine z_iconst F (nI 0) dX13_upward_2_37 rfl ?_
        refine z_iconst F (nI 2) dX13_upward_2_38 rfl ?_
        refine z_iload_n F dX13_upward_2_39 rfl ?_
        refine z_imulN F dX13_upward_2_40 ?_
        refine z_iastN F rfl (Nat.le_of_ble_eq_true rfl) (by omega) dX13_upward_2_41 ?_
        refine z_weq (w' := [_, _, _, _, _, _, _, _, _, _, _, _]) rfl ?_
        refine z_aload_n F dX13_upward_2_42 rfl ?_
        refine z_iconst F (nI 2) dX13_upward_2_43 rfl ?_
        refine z_iload_n F dX13_upward_2_44 rfl ?_
        refine z_imulN F dX13_upward_2_45 ?_
        refine z_iconst F (nI 0) dX13_upward_2_46 rfl ?_
        refine z_iastN F rfl (Nat.le_of_ble_eq_true rfl) (by omega) dX13_upward_2_47 ?_
        refine z_weq (w' := [_, _, _, _, _, _, _, _, _, _, _, _]) rfl ?_
        refine z_iconst F (nI 0) dX13_upward_2_48 rfl ?_
        refine z_istore F dX13_upward_2_49 (Nat.le_of_ble_eq_true rfl) ?_
        refine z_leq (L' := [_, _, _, _, _, _, _, _, _, _, _, _, _]) rfl ?_
        refine outer 50 0 0 _ (fun _ => 2 * s) _ 1 _ _ (by omega) (bQu_0 _ (2 * s) (fun _ => 2 * s) rfl) ⟨fun t ht => ?_, fun x hx => ⟨by show 2 * s < 2 * n; omega, ?_⟩⟩
        rotate_left
        · show (if x = 0 then _ else _) = _
          rw [if_pos (by omega)]
        · show (if t = 2 * s then _ else Da t) = dI (if t = 2 * s then some 0 else none)
          by_cases q : t = 2 * s
          · rw [if_pos q, if_pos q]; rfl
          · rw [if_neg q, if_neg q]; exact hD t (by omega)
      · refine z_aload_n F dX13_upward_2_21 rfl ?_
        refine z_iload F dX13_upward_2_22 rfl ?_
        refine z_iconst F (-1) dX13_upward_2_24 rfl ?_
        refine z_iastN F rfl (Nat.le_of_ble_eq_true rfl) (by omega) dX13_upward_2_25 ?_
        refine z_weq (w' := [_, _, _, _, _, _, _, _, _, _, _, _]) rfl ?_
        refine z_iincN F 1 dX13_upward_2_26 rfl rfl ?_
        refine z_leq (L' := [_, _, _, _, _, _, _, _, _, _, _, _, _]) rfl ?_
        refine z_goto F (tgt := 14) dX13_upward_2_29 (by decide) ?_
        refine ih (k + 1) _ (by omega) (by omega) (fun x hx => ?_)
        show (if x = k then _ else Da x) = _
        by_cases q : x = k
        · rw [if_pos q]
        · rw [if_neg q]; exact hD x (by omega)
  
  refine z_bipush F (nI 48) dX13_upward_2_0 rfl ?_
  refine z_newaI F 48 10 q174 (nI_pos (by omega)) (zcl_n (by omega)) (by omega) rfl (Nat.le_of_ble_eq_true rfl) ⟨trivial, rfl, rfl, trivial, trivial, trivial, trivial, trivial, trivial, trivial, trivial⟩ rfl rfl ⟨by omega, by omega⟩ dX13_upward_2_2 ?_
  refine z_weq (w' := [_, _, _, _, _, _, _, _, _, _, _]) rfl ?_
  refine z_astore_n F dX13_upward_2_4 (Nat.le_of_ble_eq_true rfl) ?_
  refine z_leq (L' := [_, _, _, _, _, _, _, _, _, _, _, _, _]) rfl ?_
  refine z_bipush F (nI 48) dX13_upward_2_5 rfl ?_
  refine z_newaI F 48 11 q174 (nI_pos (by omega)) (zcl_n (by omega)) (by omega) rfl (Nat.le_of_ble_eq_true rfl) ⟨trivial, rfl, rfl, trivial, trivial, trivial, trivial, trivial, trivial, trivial, trivial, trivial⟩ rfl rfl ⟨by omega, by omega⟩ dX13_upward_2_7 ?_
  refine z_weq (w' := [_, _, _, _, _, _, _, _, _, _, _, _]) rfl ?_
  refine z_astore F dX13_upward_2_9 (Nat.le_of_ble_eq_true rfl) ?_
  refine z_leq (L' := [_, _, _, _, _, _, _, _, _, _, _, _, _]) rfl ?_
  refine z_iconst F (nI 0) dX13_upward_2_11 rfl ?_
  refine z_istore F dX13_upward_2_12 (Nat.le_of_ble_eq_true rfl) ?_
  refine z_leq (L' := [_, _, _, _, _, _, _, _, _, _, _, _, _]) rfl ?_
  exact fill 49 0 _ (by omega) (by omega) (fun x hx => absurd hx (by omega))
theorem c_wupward (n d0 : Nat) (d jo tr : Int32) (f : Nat → Int32) (M : Nat → Nat → Int32) (r : Nat) (sm : Bool) (h : nok n d0 f) (hc : conn n f (allB n)) (hM : ∀ x y, x < n → y < n → M x y = nI (dN n f x y)) (hr : r < n) :
    zCtr yX13_upward cX13_upward 7 (some .int) 2 75 3000 [zr 1 0, zi (nI r), zi (bI sm)] (wUp n d jo tr f M) (fun r' w => r' = some (zi (if sm = true then usa n f r n else uma n f r n)) ∧ w = wUp n d jo tr f M) zNx := by
  refine z_start (by decide) [some (zr 1 0), some (zi (nI r)), some (zi (bI sm)), none, none, none, none] rfl (fun _ => Nat.le_of_ble_eq_true rfl) (fun _ => rfl) (fun X F E hno hin => ?_)
  have hn := h.n24
  have hn1 := h.n1
  have row : ∀ (a : Nat) (v0 : Int32) (k0 n0 : Nat) (Da Dl R : Nat → Int32), a < n → k0 ≤ 75 → n0 ≤ 3000 → (∀ b, b < n → R b = ris n f r a b) → (Z X [some (zr 1 0), some (zi (nI r)), some (zi (bI sm)), some (zi (if sm = true then usr n f r a v0 n else umr n f r a v0 n)), some (zi (nI (a + 1))), none, none] [] (wUp n d jo tr f M) k0 n0 5) →
      ∀ (m b : Nat), n - b < m → b ≤ n → Z X [some (zr 1 0), some (zi (nI r)), some (zi (bI sm)), some (zi (if sm = true then usr n f r a v0 b else umr n f r a v0 b)), some (zi (nI a)), some (zr 12 0), some (zi (nI b))] [] (wUq n d jo tr f M Da Dl ++ [zAi 0 n R]) k0 n0 29 := by
    intro a v0 k0 n0 Da Dl R ha hk0 hn0 hR kk m
    induction m with
    | zero => intro b hm; omega
    | succ m ih =>
      intro b hm hb
      have gR : b < n → R b = ris n f r a b := fun z => hR b z
      have i1 : b < n → _ := fun z => ih (b + 1) (by omega) z
      rw [usr, umr] at i1
      rcases sm with _ | _
      ·
        refine z_iload F dX13_upward_29 rfl ?_
        refine z_aload_n F dX13_upward_31 rfl ?_
        refine z_get F zC13 (f := 0) rfl (Nat.le_of_ble_eq_true rfl) q1317 rfl dX13_upward_32 ?_
        refine z_getN F zC5 (f := 0) rfl (Nat.le_of_ble_eq_true rfl) q239 rfl dX13_upward_35 ?_
        refine z_icmp_geN F (by omega) (by omega) (tgt := 71) dX13_upward_38 (by decide) (fun c_38 => ?_) (fun c_38 => ?_)
        · refine z_take F 10 [zH, zO _ [zr _ _, zi _, zr _ _, zr _ _, zr _ _, zr _ _, zr _ _, zr _ _, zi _], zO _ [zi _, zi _, zr _ _], zAi 0 24 _, zMi 4 0 24 24 _, zH, zH, zH, zH, zH] rfl ?_
          refine z_loc [some (zr 1 0), some (zi (nI r)), some (zi (bI false)), some _, some (zi (nI a)), none, none] ⟨rfl, rfl, rfl, rfl, rfl, trivial⟩ ?_
          refine z_iincN F 1 dX13_upward_71 rfl rfl ?_
          refine z_leq (L' := [_, _, _, _, _, _, _]) rfl ?_
          refine z_goto F (tgt := 5) dX13_upward_74 (by decide) ?_
          rw [show b = n by omega]; exact kk
        · refine z_iload_n F dX13_upward_41 rfl ?_
          refine z_if_eqB F (tgt := 55) dX13_upward_42 (by decide) (fun c_42 => ?_) (fun c_42 => ?_)
          · refine z_iload_n F dX13_upward_55 rfl ?_
            refine z_aload F dX13_upward_56 rfl ?_
            refine z_iload F dX13_upward_58 rfl ?_
            refine z_ialdN F rfl (by omega) (by omega) rfl dX13_upward_60 ?_
            refine z_mmax F q1391 dX13_upward_61 (Nat.le_of_ble_eq_true rfl) rfl (Nat.le_of_ble_eq_true rfl) ⟨by omega, by omega⟩ ?_
            refine z_istore_n F dX13_upward_64 (Nat.le_of_ble_eq_true rfl) ?_
            refine z_leq (L' := [_, _, _, _, _, _, _]) rfl ?_
            refine z_iincN F 1 dX13_upward_65 rfl rfl ?_
            refine z_leq (L' := [_, _, _, _, _, _, _]) rfl ?_
            refine z_goto F (tgt := 29) dX13_upward_68 (by decide) ?_
            have i1 := i1 (by omega)
            rw [← gR (by omega)] at i1
            exact i1
          · cases c_42
      ·
        refine z_iload F dX13_upward_29 rfl ?_
        refine z_aload_n F dX13_upward_31 rfl ?_
        refine z_get F zC13 (f := 0) rfl (Nat.le_of_ble_eq_true rfl) q1317 rfl dX13_upward_32 ?_
        refine z_getN F zC5 (f := 0) rfl (Nat.le_of_ble_eq_true rfl) q239 rfl dX13_upward_35 ?_
        refine z_icmp_geN F (by omega) (by omega) (tgt := 71) dX13_upward_38 (by decide) (fun c_38 => ?_) (fun c_38 => ?_)
        · refine z_take F 10 [zH, zO _ [zr _ _, zi _, zr _ _, zr _ _, zr _ _, zr _ _, zr _ _, zr _ _, zi _], zO _ [zi _, zi _, zr _ _], zAi 0 24 _, zMi 4 0 24 24 _, zH, zH, zH, zH, zH] rfl ?_
          refine z_loc [some (zr 1 0), some (zi (nI r)), some (zi (bI true)), some _, some (zi (nI a)), none, none] ⟨rfl, rfl, rfl, rfl, rfl, trivial⟩ ?_
          refine z_iincN F 1 dX13_upward_71 rfl rfl ?_
          refine z_leq (L' := [_, _, _, _, _, _, _]) rfl ?_
          refine z_goto F (tgt := 5) dX13_upward_74 (by decide) ?_
          rw [show b = n by omega]; exact kk
        · refine z_iload_n F dX13_upward_41 rfl ?_
          refine z_if_eqB F (tgt := 55) dX13_upward_42 (by decide) (fun c_42 => ?_) (fun c_42 => ?_)
          · cases c_42
          · refine z_iload_n F dX13_upward_45 rfl ?_
            refine z_aload F dX13_upward_46 rfl ?_
            refine z_iload F dX13_upward_48 rfl ?_
            refine z_ialdN F rfl (by omega) (by omega) rfl dX13_upward_50 ?_
            refine z_iadd F dX13_upward_51 ?_
            refine z_goto F (tgt := 64) dX13_upward_52 (by decide) ?_
            refine z_istore_n F dX13_upward_64 (Nat.le_of_ble_eq_true rfl) ?_
            refine z_leq (L' := [_, _, _, _, _, _, _]) rfl ?_
            refine z_iincN F 1 dX13_upward_65 rfl rfl ?_
            refine z_leq (L' := [_, _, _, _, _, _, _]) rfl ?_
            refine z_goto F (tgt := 29) dX13_upward_68 (by decide) ?_
            have i1 := i1 (by omega)
            rw [← gR (by omega)] at i1
            exact i1
  have rows : ∀ (m a : Nat), n - a < m → a ≤ n → Z X [some (zr 1 0), some (zi (nI r)), some (zi (bI sm)), some (zi (if sm = true then usa n f r a else uma n f r a)), some (zi (nI a)), none, none] [] (wUp n d jo tr f M) (3 * a) (120 * a) 5 := by
    intro m
    induction m with
    | zero => intro a hm; omega
    | succ m ih =>
      intro a hm ha
      have i1 : a < n → _ := fun z => ih (a + 1) (by omega) z
      rw [usa, uma] at i1
      refine z_iload F dX13_upward_5 rfl ?_
      refine z_aload_n F dX13_upward_7 rfl ?_
      refine z_get F zC13 (f := 0) rfl (Nat.le_of_ble_eq_true rfl) q1317 rfl dX13_upward_8 ?_
      refine z_getN F zC5 (f := 0) rfl (Nat.le_of_ble_eq_true rfl) q239 rfl dX13_upward_11 ?_
      refine z_icmp_geN F (by omega) (by omega) (tgt := 77) dX13_upward_14 (by decide) (fun c_14 => ?_) (fun c_14 => ?_)
      · refine z_iload_n F dX13_upward_77 rfl ?_
        exact z_iret F E rfl dX13_upward_78 (by omega) (by omega) (⟨by rw [show a = n by omega], rfl⟩)
      · refine z_aload_n F dX13_upward_17 rfl ?_
        refine z_iload_n F dX13_upward_18 rfl ?_
        refine z_iload F dX13_upward_19 rfl ?_
        refine z_callV F (c_wup n d0 d jo tr f M r a h hc hM hr (by omega)) 2 rfl (lw_V q1407 q1409 qs37 q141 q1410) (by decide +kernel) ⟨Nat.le_of_ble_eq_true rfl, Nat.le_of_ble_eq_true rfl⟩ ⟨by omega, by omega⟩ [0, 1, 2, 3, 4, 5, 6, 7, 8, 9] 10 ⟨rfl, rfl, rfl, ⟨Or.inl rfl, Or.inr rfl, Or.inr rfl, Or.inr rfl, Or.inr rfl, Or.inl rfl, Or.inl rfl, Or.inl rfl, Or.inl rfl, Or.inl rfl, trivial⟩⟩ (fun h => nomatch h) (Nat.le_of_ble_eq_true rfl) ⟨⟨Or.inr trivial, Or.inl rfl, Or.inl rfl, Or.inl rfl, Or.inl rfl, Or.inr trivial, Or.inr trivial, Or.inr trivial, Or.inr trivial, Or.inr trivial, trivial⟩, rfl, rfl, rfl, Nat.le_of_ble_eq_true rfl⟩ rfl zC13 rfl rfl dX13_upward_21 (fun r_21 w_21 hp => ?_) (fun _ _ h => h.elim)
        obtain ⟨rfl, Da, Dl, R, rfl, hR⟩ := hp
        refine z_weq (w' := [zH, zO _ [zr _ _, zi _, zr _ _, zr _ _, zr _ _, zr _ _, zr _ _, zr _ _, zi _], zO _ [zi _, zi _, zr _ _], zAi 0 24 _, zMi 4 0 24 24 _, zH, zH, zH, zH, zH, zAi 0 48 _, zAi 0 48 _, zAi 0 n _]) rfl ?_
        refine z_seq (S' := zr _ _ :: _) rfl ?_
        refine z_astore F dX13_upward_24 (Nat.le_of_ble_eq_true rfl) ?_
        refine z_leq (L' := [_, _, _, _, _, _, _]) rfl ?_
        refine z_iconst F (nI 0) dX13_upward_26 rfl ?_
        refine z_istore F dX13_upward_27 (Nat.le_of_ble_eq_true rfl) ?_
        refine z_leq (L' := [_, _, _, _, _, _, _]) rfl ?_
        have i1 := i1 (by omega)
        rcases sm with _ | _
        · exact row a (uma n f r a) (3 * (a + 1)) (120 * (a + 1)) Da Dl R (by omega) (by omega) (by omega) hR i1 (n + 1) 0 (by omega) (by omega)
        · exact row a (usa n f r a) (3 * (a + 1)) (120 * (a + 1)) Da Dl R (by omega) (by omega) (by omega) hR i1 (n + 1) 0 (by omega) (by omega)
  refine z_iconst F (nI 0) dX13_upward_0 rfl ?_
  refine z_istore_n F dX13_upward_1 (Nat.le_of_ble_eq_true rfl) ?_
  refine z_leq (L' := [_, _, _, _, _, _, _]) rfl ?_
  refine z_iconst F (nI 0) dX13_upward_2 rfl ?_
  refine z_istore F dX13_upward_3 (Nat.le_of_ble_eq_true rfl) ?_
  refine z_leq (L' := [_, _, _, _, _, _, _]) rfl ?_
  rcases sm with _ | _
  · exact rows (n + 1) 0 (by omega) (by omega)
  · exact rows (n + 1) 0 (by omega) (by omega)
theorem c_pupward (P : zPt) (t : Nat) (fp : Int32) (j n d : Nat) (f : Nat → Int32) (r : Int32) (u : Nat) (hj : j < 8) (h : nok n d f) (hP : P j = some (nI n, nI d, f)) (hu : u < 2) : zCtr yX1_upward cX1_upward 6 (some .int) 8 190 5700 [zr 1 0, zi (nI j), zi r, zi (nI u)] (xH P t fp) (fun r' w => ∃ r0, r0 < n ∧ r = nI r0 ∧ r' = some (zi (if cjn n f = true then (if u = 0 then uma n f r0 n else usa n f r0 n) else -1)) ∧ w = xH P t fp) (fun E w => E = eNSE ∧ knB n r = false ∧ w = xH P t fp) := by
  refine z_start (by decide) [some (zr 1 0), some (zi (nI j)), some (zi r), some (zi (nI u)), none, none] rfl (fun _ => Nat.le_of_ble_eq_true rfl) (fun _ => rfl) (fun X F E hno hin => ?_)
  have h1 := h.n1
  have h24 := h.n24
  refine z_aload_n F dX1_upward_0 rfl ?_
  refine z_iload_n F dX1_upward_1 rfl ?_
  refine z_callV F (c_netAt_ok P t fp j hj hP) 1 rfl (lw_V q429 q431 qs0 q109 q432) (by decide +kernel) ⟨Nat.le_of_ble_eq_true rfl, Nat.le_of_ble_eq_true rfl⟩ ⟨by omega, by omega⟩ [0, 1, 2, 3, 4, 5, 6, 7, 8, 9, 10, 11, 12, 13, 14, 15, 16, 17, 18, 19, 20, 21] 22 ⟨rfl, rfl, rfl, ⟨Or.inr (congrArg some (zrnP rfl).symm), Or.inr rfl, Or.inl rfl, Or.inl rfl, Or.inl rfl, Or.inl rfl, Or.inl rfl, Or.inl rfl, Or.inl rfl, Or.inl rfl, Or.inl rfl, Or.inl rfl, Or.inl rfl, Or.inl rfl, Or.inl rfl, Or.inl rfl, Or.inl rfl, Or.inl rfl, Or.inl rfl, Or.inl rfl, Or.inl rfl, Or.inl rfl, trivial⟩⟩ (fun _ => rfl) (Nat.le_of_ble_eq_true rfl) ⟨⟨Or.inl rfl, Or.inl rfl, Or.inr trivial, Or.inr trivial, Or.inr trivial, Or.inr trivial, Or.inr trivial, Or.inr trivial, Or.inr trivial, Or.inr trivial, Or.inr trivial, Or.inr trivial, Or.inr trivial, Or.inr trivial, Or.inr trivial, Or.inr trivial, Or.inr trivial, Or.inr trivial, Or.inr trivial, Or.inr trivial, Or.inr trivial, Or.inr trivial, trivial⟩, rfl, rfl, rfl, Nat.le_of_ble_eq_true rfl⟩ rfl zC1 rfl rfl dX1_upward_2 (fun r_2 w_2 hp => ?_) (fun _ _ h => h.elim)
  obtain ⟨rfl, rfl⟩ := hp
  refine z_weq (w' := zPl (pR _) _ :: _) (congrArg (fun z => z :: _) (zrnP rfl)) ?_
  refine z_weq (w' := [zPl _ _, zO _ [zr _ _, zr _ _, zr _ _, zr _ _, zr _ _, zi _, zi _, zr _ _, zr _ _], zH, zH, zH, zH, zH, zH, zH, zH, zH, zH, zH, zH, zH, zH, zH, zH, zH, zH, zH, zH]) rfl ?_
  refine z_seq (S' := zr _ _ :: _) rfl ?_
  refine z_astore F dX1_upward_5 (Nat.le_of_ble_eq_true rfl) ?_
  refine z_leq (L' := [_, _, _, _, _, _]) rfl ?_
  refine z_foc F j hj hP (N := 22) (M := 23) (L' := [_, _, _, _, some (zr 22 0), _]) (S' := []) rfl rfl (Nat.le_of_ble_eq_true rfl) ⟨rfl, trivial, trivial, trivial, trivial, trivial, trivial, trivial, trivial, trivial, trivial, trivial, trivial, trivial, trivial, trivial, trivial, trivial, trivial, trivial, trivial, trivial⟩ ⟨Or.inl rfl, Or.inl rfl, Or.inl rfl, Or.inl rfl, Or.inr ⟨rfl, rfl⟩, Or.inl rfl, trivial⟩ rfl trivial rfl ?_
  refine z_weq (w' := [zPl _ _, zO _ [zr _ _, zr _ _, zr _ _, zr _ _, zr _ _, zi _, zi _, zr _ _, zr _ _], zH, zH, zH, zH, zH, zH, zH, zH, zH, zH, zH, zH, zH, zH, zH, zH, zH, zH, zH, zH, zO _ [zi _, zi _, zr _ _], zAi 0 24 _]) rfl ?_
  refine z_aload F dX1_upward_7 rfl ?_
  refine z_iload_n F dX1_upward_9 rfl ?_
  refine z_callS F (c_knot n (nI d) r h1 h24) 2 rfl (lw_S q500 q501 q109 q502) (by decide +kernel) ⟨Nat.le_of_ble_eq_true rfl, Nat.le_of_ble_eq_true rfl⟩ ⟨by omega, by omega⟩ [0, 22, 23] 24 ⟨rfl, rfl, rfl, ⟨Or.inl rfl, Or.inr rfl, Or.inl rfl, trivial⟩⟩ (fun h => nomatch h) (Nat.le_of_ble_eq_true rfl) ⟨⟨Or.inr (by first | exact ⟨rfl, pR_B _ (by decide)⟩ | exact ⟨rfl, uR_B (by decide) (by decide)⟩), Or.inr rfl, Or.inr trivial, Or.inr trivial, Or.inr trivial, Or.inr trivial, Or.inr trivial, Or.inr trivial, Or.inr trivial, Or.inr trivial, Or.inr trivial, Or.inr trivial, Or.inr trivial, Or.inr trivial, Or.inr trivial, Or.inr trivial, Or.inr trivial, Or.inr trivial, Or.inr trivial, Or.inr trivial, Or.inr trivial, Or.inr trivial, Or.inl rfl, Or.inr trivial, trivial⟩, rfl, rfl, rfl, Nat.le_of_ble_eq_true rfl⟩ rfl rfl dX1_upward_10 (fun r_10 w_10 hp => ?_) (fun E_ w_ hx => by obtain ⟨rfl, hb, rfl⟩ := hx; exact zx_pub F rfl E hno j 22 23 hj hP rfl rfl (Nat.le_of_ble_eq_true rfl) (Nat.le_of_ble_eq_true rfl) (Nat.le_of_ble_eq_true rfl) _ rfl ⟨rfl, trivial, trivial, trivial, trivial, trivial, trivial, trivial, trivial, trivial, trivial, trivial, trivial, trivial, trivial, trivial, trivial, trivial, trivial, trivial, trivial, trivial⟩ (Nat.le_of_ble_eq_true rfl) (by omega) (by omega) (⟨rfl, hb, rfl⟩))
  obtain ⟨rfl, hb, rfl⟩ := hp
  obtain ⟨r0, hr, rfl⟩ := knB_of h24 hb
  refine z_weq (w' := [zPl _ _, zO _ [zr _ _, zr _ _, zr _ _, zr _ _, zr _ _, zi _, zi _, zr _ _, zr _ _], zH, zH, zH, zH, zH, zH, zH, zH, zH, zH, zH, zH, zH, zH, zH, zH, zH, zH, zH, zH, zO _ [zi _, zi _, zr _ _], zAi 0 24 _]) rfl ?_
  refine z_seq (S' := []) rfl ?_
  refine z_iload_n F dX1_upward_13 rfl ?_
  refine z_if_eqN F (by omega) (tgt := 22) dX1_upward_14 (by decide) (fun c_14 => ?_) (fun c_14 => ?_)
  · refine z_iconstB F true dX1_upward_22 rfl ?_
    refine z_goto F (tgt := 27) dX1_upward_23 (by decide) ?_
    refine z_callS F (c_fnd true) 1 rfl (lw_S q433 q434 q109 q435) (by decide +kernel) ⟨Nat.le_of_ble_eq_true rfl, Nat.le_of_ble_eq_true rfl⟩ ⟨by omega, by omega⟩ [0] 24 ⟨rfl, rfl, rfl, ⟨Or.inl rfl, trivial⟩⟩ (fun h => nomatch h) (Nat.le_of_ble_eq_true rfl) ⟨⟨Or.inr (by first | exact ⟨rfl, pR_B _ (by decide)⟩ | exact ⟨rfl, uR_B (by decide) (by decide)⟩), Or.inr rfl, Or.inr trivial, Or.inr trivial, Or.inr trivial, Or.inr trivial, Or.inr trivial, Or.inr trivial, Or.inr trivial, Or.inr trivial, Or.inr trivial, Or.inr trivial, Or.inr trivial, Or.inr trivial, Or.inr trivial, Or.inr trivial, Or.inr trivial, Or.inr trivial, Or.inr trivial, Or.inr trivial, Or.inr trivial, Or.inr trivial, Or.inr rfl, Or.inr trivial, trivial⟩, rfl, rfl, rfl, Nat.le_of_ble_eq_true rfl⟩ rfl rfl dX1_upward_27 (fun r_27 w_27 hp => ?_) (fun E_ w_ hx => by cases hx.2.1)
    obtain ⟨rfl, -, rfl⟩ := hp
    refine z_weq (w' := [zPl _ _, zO _ [zr _ _, zr _ _, zr _ _, zr _ _, zr _ _, zi _, zi _, zr _ _, zr _ _], zH, zH, zH, zH, zH, zH, zH, zH, zH, zH, zH, zH, zH, zH, zH, zH, zH, zH, zH, zH, zO _ [zi _, zi _, zr _ _], zAi 0 24 _]) rfl ?_
    refine z_seq (S' := []) rfl ?_
    refine z_new F 24 [zn, zi 0, zn, zn, zn, zn, zn, zn, zi 0] zC13 q1296 q1297 q141 (fun _ j hj => by match j, hj with | 0, _ => rfl | 1, _ => rfl | 2, _ => rfl | 3, _ => rfl | 4, _ => rfl | 5, _ => rfl | 6, _ => rfl | 7, _ => rfl | 8, _ => rfl) rfl (Nat.le_of_ble_eq_true rfl) (Nat.le_of_ble_eq_true rfl) ⟨(by first | exact pR_N _ (Nat.le_of_ble_eq_true rfl) | exact uR_N (Nat.le_of_ble_eq_true rfl) (Nat.le_of_ble_eq_true rfl)), rfl, trivial, trivial, trivial, trivial, trivial, trivial, trivial, trivial, trivial, trivial, trivial, trivial, trivial, trivial, trivial, trivial, trivial, trivial, trivial, trivial, rfl, trivial, trivial⟩ rfl rfl ⟨by omega, by omega⟩ dX1_upward_30 ?_
    refine z_weq (w' := [_, _, _, _, _, _, _, _, _, _, _, _, _, _, _, _, _, _, _, _, _, _, _, _, _]) rfl ?_
    refine z_dup F dX1_upward_33 rfl ?_
    refine z_aload F dX1_upward_34 rfl ?_
    refine z_callI F (c_waysInit n d f h) 1 rfl (lw_meth q1300) q141 q1298 q1299 rfl (by decide +kernel) ⟨Nat.le_of_ble_eq_true rfl, Nat.le_of_ble_eq_true rfl⟩ ⟨by omega, by omega⟩ [0, 24, 22, 23] 25 ⟨rfl, rfl, rfl, ⟨Or.inl rfl, Or.inr rfl, Or.inr rfl, Or.inr rfl, trivial⟩⟩ (fun h => nomatch h) (Nat.le_of_ble_eq_true rfl) ⟨⟨Or.inr (by first | exact ⟨rfl, pR_B _ (by decide)⟩ | exact ⟨rfl, uR_B (by decide) (by decide)⟩), Or.inr rfl, Or.inr trivial, Or.inr trivial, Or.inr trivial, Or.inr trivial, Or.inr trivial, Or.inr trivial, Or.inr trivial, Or.inr trivial, Or.inr trivial, Or.inr trivial, Or.inr trivial, Or.inr trivial, Or.inr trivial, Or.inr trivial, Or.inr trivial, Or.inr trivial, Or.inr trivial, Or.inr trivial, Or.inr trivial, Or.inr trivial, Or.inl rfl, Or.inl rfl, Or.inl rfl, trivial⟩, rfl, rfl, rfl, Nat.le_of_ble_eq_true rfl⟩ rfl rfl dX1_upward_36 (fun r_36 w_36 hp => ?_) (fun _ _ h => h.elim)
    obtain ⟨rfl, M1, H1, L1, F1, rfl, hw1, hw2⟩ := hp
    refine z_weq (w' := [zPl _ _, zO _ [zr _ _, zr _ _, zr _ _, zr _ _, zr _ _, zi _, zi _, zr _ _, zr _ _], zH, zH, zH, zH, zH, zH, zH, zH, zH, zH, zH, zH, zH, zH, zH, zH, zH, zH, zH, zH, zO _ [zi _, zi _, zr _ _], zAi 0 24 _, zO _ [zr _ _, zi _, zr _ _, zr _ _, zr _ _, zr _ _, zr _ _, zr _ _, zi _], zMi 4 0 24 24 _, zMi 4 0 24 24 _, zMi 4 0 24 24 _, zMi 4 0 24 24 _, zAi 0 24 _, zAi 0 24 _]) rfl ?_
    refine z_seq (S' := [_]) rfl ?_
    refine z_astore F dX1_upward_39 (Nat.le_of_ble_eq_true rfl) ?_
    refine z_leq (L' := [_, _, _, _, _, _]) rfl ?_
    refine z_aload F dX1_upward_41 rfl ?_
    refine z_getN F zC13 (f := 1) rfl (Nat.le_of_ble_eq_true rfl) q1319 rfl dX1_upward_43 ?_
    refine z_if_eqB F (tgt := 68) dX1_upward_46 (by decide) (fun c_46 => ?_) (fun c_46 => ?_)
    · refine z_iconst F (-1) dX1_upward_68 rfl ?_
      refine z_loc [some _, some _, some _, some _, none, none] ⟨rfl, rfl, rfl, rfl, trivial⟩ ?_
      refine z_unfocus F rfl j 22 23 22 hj zput_self rfl rfl (Nat.le_of_ble_eq_true rfl) (Nat.le_of_ble_eq_true rfl) (Nat.le_of_ble_eq_true rfl) (Nat.le_of_ble_eq_true rfl) [zO _ [zr _ _, zr _ _, zr _ _, zr _ _, zr _ _, zi _, zi _, zr _ _, zr _ _], zH, zH, zH, zH, zH, zH, zH, zH, zH, zH, zH, zH, zH, zH, zH, zH, zH, zH, zH, zH] rfl ⟨rfl, trivial, trivial, trivial, trivial, trivial, trivial, trivial, trivial, trivial, trivial, trivial, trivial, trivial, trivial, trivial, trivial, trivial, trivial, trivial, trivial, trivial⟩ uOK rfl rfl ?_
      refine z_weq (w' := zPl (pR (zput P j (some _))) (zput P j (some _)) :: _) (congrArg (fun z => z :: _) uPl2) ?_
      exact z_iret F E rfl dX1_upward_69 (by omega) (by omega) (⟨r0, hr, rfl, by rw [c_46]; rfl, by rw [zput_some hP]; rfl⟩)
    · have hc := (cjn_conn h.n1 h.n24 (fun a b ha hb => h.sym ha hb)).mp c_46
      have hM : ∀ x y, x < n → y < n → M1 x y = nI (dN n f x y) := fun x y hx hy => by rw [(hw1 c_46).1.1 x y hx hy, dN_eq h24 hc hx hy]; rfl
      refine z_aload F dX1_upward_49 rfl ?_
      refine z_iload_n F dX1_upward_51 rfl ?_
      refine z_iload_n F dX1_upward_52 rfl ?_
      refine z_iconst F (nI 1) dX1_upward_53 rfl ?_
      refine z_icmp_neN F (by omega) (by omega) (tgt := 61) dX1_upward_54 (by decide) (fun c_54 => ?_) (fun c_54 => ?_)
      · refine z_iconstB F false dX1_upward_61 rfl ?_
        refine z_callV F (c_wupward n d (nI d) _ 0 f M1 r0 _ h hc hM hr) 2 rfl (lw_V q1403 q1404 q1405 q141 q1406) (by decide +kernel) ⟨Nat.le_of_ble_eq_true rfl, Nat.le_of_ble_eq_true rfl⟩ ⟨by omega, by omega⟩ [0, 24, 22, 23, 25, 26, 27, 28, 29, 30] 31 ⟨rfl, rfl, rfl, ⟨Or.inl rfl, Or.inr rfl, Or.inr rfl, Or.inr rfl, Or.inr rfl, Or.inl rfl, Or.inl rfl, Or.inl rfl, Or.inl rfl, Or.inl rfl, trivial⟩⟩ (fun h => nomatch h) (Nat.le_of_ble_eq_true rfl) ⟨⟨Or.inr (by first | exact ⟨rfl, pR_B _ (by decide)⟩ | exact ⟨rfl, uR_B (by decide) (by decide)⟩), Or.inr rfl, Or.inr trivial, Or.inr trivial, Or.inr trivial, Or.inr trivial, Or.inr trivial, Or.inr trivial, Or.inr trivial, Or.inr trivial, Or.inr trivial, Or.inr trivial, Or.inr trivial, Or.inr trivial, Or.inr trivial, Or.inr trivial, Or.inr trivial, Or.inr trivial, Or.inr trivial, Or.inr trivial, Or.inr trivial, Or.inr trivial, Or.inl rfl, Or.inl rfl, Or.inl rfl, Or.inl rfl, Or.inr trivial, Or.inr trivial, Or.inr trivial, Or.inr trivial, Or.inr trivial, trivial⟩, rfl, rfl, rfl, Nat.le_of_ble_eq_true rfl⟩ rfl zC13 rfl rfl dX1_upward_62 (fun r_62 w_62 hp => ?_) (fun _ _ h => h.elim)
        obtain ⟨rfl, rfl⟩ := hp
        refine z_weq (w' := [zPl _ _, zO _ [zr _ _, zr _ _, zr _ _, zr _ _, zr _ _, zi _, zi _, zr _ _, zr _ _], zH, zH, zH, zH, zH, zH, zH, zH, zH, zH, zH, zH, zH, zH, zH, zH, zH, zH, zH, zH, zO _ [zi _, zi _, zr _ _], zAi 0 24 _, zO _ [zr _ _, zi _, zr _ _, zr _ _, zr _ _, zr _ _, zr _ _, zr _ _, zi _], zMi 4 0 24 24 _, zMi 4 0 24 24 _, zMi 4 0 24 24 _, zMi 4 0 24 24 _, zAi 0 24 _, zAi 0 24 _]) rfl ?_
        refine z_seq (S' := zi _ :: _) rfl ?_
        refine z_goto F (tgt := 69) dX1_upward_65 (by decide) ?_
        refine z_loc [some _, some _, some _, some _, none, none] ⟨rfl, rfl, rfl, rfl, trivial⟩ ?_
        refine z_unfocus F rfl j 22 23 22 hj zput_self rfl rfl (Nat.le_of_ble_eq_true rfl) (Nat.le_of_ble_eq_true rfl) (Nat.le_of_ble_eq_true rfl) (Nat.le_of_ble_eq_true rfl) [zO _ [zr _ _, zr _ _, zr _ _, zr _ _, zr _ _, zi _, zi _, zr _ _, zr _ _], zH, zH, zH, zH, zH, zH, zH, zH, zH, zH, zH, zH, zH, zH, zH, zH, zH, zH, zH, zH] rfl ⟨rfl, trivial, trivial, trivial, trivial, trivial, trivial, trivial, trivial, trivial, trivial, trivial, trivial, trivial, trivial, trivial, trivial, trivial, trivial, trivial, trivial, trivial⟩ uOK rfl rfl ?_
        refine z_weq (w' := zPl (pR (zput P j (some _))) (zput P j (some _)) :: _) (congrArg (fun z => z :: _) uPl2) ?_
        exact z_iret F E rfl dX1_upward_69 (by omega) (by omega) (⟨r0, hr, rfl, by (have e : u = 0 := by omega); subst e; rw [c_46]; rfl, by rw [zput_some hP]; rfl⟩)
      · refine z_iconstB F true dX1_upward_57 rfl ?_
        refine z_goto F (tgt := 62) dX1_upward_58 (by decide) ?_
        refine z_callV F (c_wupward n d (nI d) _ 0 f M1 r0 _ h hc hM hr) 2 rfl (lw_V q1403 q1404 q1405 q141 q1406) (by decide +kernel) ⟨Nat.le_of_ble_eq_true rfl, Nat.le_of_ble_eq_true rfl⟩ ⟨by omega, by omega⟩ [0, 24, 22, 23, 25, 26, 27, 28, 29, 30] 31 ⟨rfl, rfl, rfl, ⟨Or.inl rfl, Or.inr rfl, Or.inr rfl, Or.inr rfl, Or.inr rfl, Or.inl rfl, Or.inl rfl, Or.inl rfl, Or.inl rfl, Or.inl rfl, trivial⟩⟩ (fun h => nomatch h) (Nat.le_of_ble_eq_true rfl) ⟨⟨Or.inr (by first | exact ⟨rfl, pR_B _ (by decide)⟩ | exact ⟨rfl, uR_B (by decide) (by decide)⟩), Or.inr rfl, Or.inr trivial, Or.inr trivial, Or.inr trivial, Or.inr trivial, Or.inr trivial, Or.inr trivial, Or.inr trivial, Or.inr trivial, Or.inr trivial, Or.inr trivial, Or.inr trivial, Or.inr trivial, Or.inr trivial, Or.inr trivial, Or.inr trivial, Or.inr trivial, Or.inr trivial, Or.inr trivial, Or.inr trivial, Or.inr trivial, Or.inl rfl, Or.inl rfl, Or.inl rfl, Or.inl rfl, Or.inr trivial, Or.inr trivial, Or.inr trivial, Or.inr trivial, Or.inr trivial, trivial⟩, rfl, rfl, rfl, Nat.le_of_ble_eq_true rfl⟩ rfl zC13 rfl rfl dX1_upward_62 (fun r_62 w_62 hp => ?_) (fun _ _ h => h.elim)
        obtain ⟨rfl, rfl⟩ := hp
        refine z_weq (w' := [zPl _ _, zO _ [zr _ _, zr _ _, zr _ _, zr _ _, zr _ _, zi _, zi _, zr _ _, zr _ _], zH, zH, zH, zH, zH, zH, zH, zH, zH, zH, zH, zH, zH, zH, zH, zH, zH, zH, zH, zH, zO _ [zi _, zi _, zr _ _], zAi 0 24 _, zO _ [zr _ _, zi _, zr _ _, zr _ _, zr _ _, zr _ _, zr _ _, zr _ _, zi _], zMi 4 0 24 24 _, zMi 4 0 24 24 _, zMi 4 0 24 24 _, zMi 4 0 24 24 _, zAi 0 24 _, zAi 0 24 _]) rfl ?_
        refine z_seq (S' := zi _ :: _) rfl ?_
        refine z_goto F (tgt := 69) dX1_upward_65 (by decide) ?_
        refine z_loc [some _, some _, some _, some _, none, none] ⟨rfl, rfl, rfl, rfl, trivial⟩ ?_
        refine z_unfocus F rfl j 22 23 22 hj zput_self rfl rfl (Nat.le_of_ble_eq_true rfl) (Nat.le_of_ble_eq_true rfl) (Nat.le_of_ble_eq_true rfl) (Nat.le_of_ble_eq_true rfl) [zO _ [zr _ _, zr _ _, zr _ _, zr _ _, zr _ _, zi _, zi _, zr _ _, zr _ _], zH, zH, zH, zH, zH, zH, zH, zH, zH, zH, zH, zH, zH, zH, zH, zH, zH, zH, zH, zH] rfl ⟨rfl, trivial, trivial, trivial, trivial, trivial, trivial, trivial, trivial, trivial, trivial, trivial, trivial, trivial, trivial, trivial, trivial, trivial, trivial, trivial, trivial, trivial⟩ uOK rfl rfl ?_
        refine z_weq (w' := zPl (pR (zput P j (some _))) (zput P j (some _)) :: _) (congrArg (fun z => z :: _) uPl2) ?_
        exact z_iret F E rfl dX1_upward_69 (by omega) (by omega) (⟨r0, hr, rfl, by (have e : u = 1 := by omega); subst e; rw [c_46]; rfl, by rw [zput_some hP]; rfl⟩)
  · refine z_iload_n F dX1_upward_17 rfl ?_
    refine z_iconst F (nI 1) dX1_upward_18 rfl ?_
    refine z_icmp_neN F (by omega) (by omega) (tgt := 26) dX1_upward_19 (by decide) (fun c_19 => ?_) (fun c_19 => ?_)
    · exact absurd c_19 (by omega)
    · refine z_iconstB F true dX1_upward_22 rfl ?_
      refine z_goto F (tgt := 27) dX1_upward_23 (by decide) ?_
      refine z_callS F (c_fnd true) 1 rfl (lw_S q433 q434 q109 q435) (by decide +kernel) ⟨Nat.le_of_ble_eq_true rfl, Nat.le_of_ble_eq_true rfl⟩ ⟨by omega, by omega⟩ [0] 24 ⟨rfl, rfl, rfl, ⟨Or.inl rfl, trivial⟩⟩ (fun h => nomatch h) (Nat.le_of_ble_eq_true rfl) ⟨⟨Or.inr (by first | exact ⟨rfl, pR_B _ (by decide)⟩ | exact ⟨rfl, uR_B (by decide) (by decide)⟩), Or.inr rfl, Or.inr trivial, Or.inr trivial, Or.inr trivial, Or.inr trivial, Or.inr trivial, Or.inr trivial, Or.inr trivial, Or.inr trivial, Or.inr trivial, Or.inr trivial, Or.inr trivial, Or.inr trivial, Or.inr trivial, Or.inr trivial, Or.inr trivial, Or.inr trivial, Or.inr trivial, Or.inr trivial, Or.inr trivial, Or.inr trivial, Or.inr rfl, Or.inr trivial, trivial⟩, rfl, rfl, rfl, Nat.le_of_ble_eq_true rfl⟩ rfl rfl dX1_upward_27 (fun r_27 w_27 hp => ?_) (fun E_ w_ hx => by cases hx.2.1)
      obtain ⟨rfl, -, rfl⟩ := hp
      refine z_weq (w' := [zPl _ _, zO _ [zr _ _, zr _ _, zr _ _, zr _ _, zr _ _, zi _, zi _, zr _ _, zr _ _], zH, zH, zH, zH, zH, zH, zH, zH, zH, zH, zH, zH, zH, zH, zH, zH, zH, zH, zH, zH, zO _ [zi _, zi _, zr _ _], zAi 0 24 _]) rfl ?_
      refine z_seq (S' := []) rfl ?_
      refine z_new F 24 [zn, zi 0, zn, zn, zn, zn, zn, zn, zi 0] zC13 q1296 q1297 q141 (fun _ j hj => by match j, hj with | 0, _ => rfl | 1, _ => rfl | 2, _ => rfl | 3, _ => rfl | 4, _ => rfl | 5, _ => rfl | 6, _ => rfl | 7, _ => rfl | 8, _ => rfl) rfl (Nat.le_of_ble_eq_true rfl) (Nat.le_of_ble_eq_true rfl) ⟨(by first | exact pR_N _ (Nat.le_of_ble_eq_true rfl) | exact uR_N (Nat.le_of_ble_eq_true rfl) (Nat.le_of_ble_eq_true rfl)), rfl, trivial, trivial, trivial, trivial, trivial, trivial, trivial, trivial, trivial, trivial, trivial, trivial, trivial, trivial, trivial, trivial, trivial, trivial, trivial, trivial, rfl, trivial, trivial⟩ rfl rfl ⟨by omega, by omega⟩ dX1_upward_30 ?_
      refine z_weq (w' := [_, _, _, _, _, _, _, _, _, _, _, _, _, _, _, _, _, _, _, _, _, _, _, _, _]) rfl ?_
      refine z_dup F dX1_upward_33 rfl ?_
      refine z_aload F dX1_upward_34 rfl ?_
      refine z_callI F (c_waysInit n d f h) 1 rfl (lw_meth q1300) q141 q1298 q1299 rfl (by decide +kernel) ⟨Nat.le_of_ble_eq_true rfl, Nat.le_of_ble_eq_true rfl⟩ ⟨by omega, by omega⟩ [0, 24, 22, 23] 25 ⟨rfl, rfl, rfl, ⟨Or.inl rfl, Or.inr rfl, Or.inr rfl, Or.inr rfl, trivial⟩⟩ (fun h => nomatch h) (Nat.le_of_ble_eq_true rfl) ⟨⟨Or.inr (by first | exact ⟨rfl, pR_B _ (by decide)⟩ | exact ⟨rfl, uR_B (by decide) (by decide)⟩), Or.inr rfl, Or.inr trivial, Or.inr trivial, Or.inr trivial, Or.inr trivial, Or.inr trivial, Or.inr trivial, Or.inr trivial, Or.inr trivial, Or.inr trivial, Or.inr trivial, Or.inr trivial, Or.inr trivial, Or.inr trivial, Or.inr trivial, Or.inr trivial, Or.inr trivial, Or.inr trivial, Or.inr trivial, Or.inr trivial, Or.inr trivial, Or.inl rfl, Or.inl rfl, Or.inl rfl, trivial⟩, rfl, rfl, rfl, Nat.le_of_ble_eq_true rfl⟩ rfl rfl dX1_upward_36 (fun r_36 w_36 hp => ?_) (fun _ _ h => h.elim)
      obtain ⟨rfl, M1, H1, L1, F1, rfl, hw1, hw2⟩ := hp
      refine z_weq (w' := [zPl _ _, zO _ [zr _ _, zr _ _, zr _ _, zr _ _, zr _ _, zi _, zi _, zr _ _, zr _ _], zH, zH, zH, zH, zH, zH, zH, zH, zH, zH, zH, zH, zH, zH, zH, zH, zH, zH, zH, zH, zO _ [zi _, zi _, zr _ _], zAi 0 24 _, zO _ [zr _ _, zi _, zr _ _, zr _ _, zr _ _, zr _ _, zr _ _, zr _ _, zi _], zMi 4 0 24 24 _, zMi 4 0 24 24 _, zMi 4 0 24 24 _, zMi 4 0 24 24 _, zAi 0 24 _, zAi 0 24 _]) rfl ?_
      refine z_seq (S' := [_]) rfl ?_
      refine z_astore F dX1_upward_39 (Nat.le_of_ble_eq_true rfl) ?_
      refine z_leq (L' := [_, _, _, _, _, _]) rfl ?_
      refine z_aload F dX1_upward_41 rfl ?_
      refine z_getN F zC13 (f := 1) rfl (Nat.le_of_ble_eq_true rfl) q1319 rfl dX1_upward_43 ?_
      refine z_if_eqB F (tgt := 68) dX1_upward_46 (by decide) (fun c_46 => ?_) (fun c_46 => ?_)
      · refine z_iconst F (-1) dX1_upward_68 rfl ?_
        refine z_loc [some _, some _, some _, some _, none, none] ⟨rfl, rfl, rfl, rfl, trivial⟩ ?_
        refine z_unfocus F rfl j 22 23 22 hj zput_self rfl rfl (Nat.le_of_ble_eq_true rfl) (Nat.le_of_ble_eq_true rfl) (Nat.le_of_ble_eq_true rfl) (Nat.le_of_ble_eq_true rfl) [zO _ [zr _ _, zr _ _, zr _ _, zr _ _, zr _ _, zi _, zi _, zr _ _, zr _ _], zH, zH, zH, zH, zH, zH, zH, zH, zH, zH, zH, zH, zH, zH, zH, zH, zH, zH, zH, zH] rfl ⟨rfl, trivial, trivial, trivial, trivial, trivial, trivial, trivial, trivial, trivial, trivial, trivial, trivial, trivial, trivial, trivial, trivial, trivial, trivial, trivial, trivial, trivial⟩ uOK rfl rfl ?_
        refine z_weq (w' := zPl (pR (zput P j (some _))) (zput P j (some _)) :: _) (congrArg (fun z => z :: _) uPl2) ?_
        exact z_iret F E rfl dX1_upward_69 (by omega) (by omega) (⟨r0, hr, rfl, by rw [c_46]; rfl, by rw [zput_some hP]; rfl⟩)
      · have hc := (cjn_conn h.n1 h.n24 (fun a b ha hb => h.sym ha hb)).mp c_46
        have hM : ∀ x y, x < n → y < n → M1 x y = nI (dN n f x y) := fun x y hx hy => by rw [(hw1 c_46).1.1 x y hx hy, dN_eq h24 hc hx hy]; rfl
        refine z_aload F dX1_upward_49 rfl ?_
        refine z_iload_n F dX1_upward_51 rfl ?_
        refine z_iload_n F dX1_upward_52 rfl ?_
        refine z_iconst F (nI 1) dX1_upward_53 rfl ?_
        refine z_icmp_neN F (by omega) (by omega) (tgt := 61) dX1_upward_54 (by decide) (fun c_54 => ?_) (fun c_54 => ?_)
        · refine z_iconstB F false dX1_upward_61 rfl ?_
          refine z_callV F (c_wupward n d (nI d) _ 0 f M1 r0 _ h hc hM hr) 2 rfl (lw_V q1403 q1404 q1405 q141 q1406) (by decide +kernel) ⟨Nat.le_of_ble_eq_true rfl, Nat.le_of_ble_eq_true rfl⟩ ⟨by omega, by omega⟩ [0, 24, 22, 23, 25, 26, 27, 28, 29, 30] 31 ⟨rfl, rfl, rfl, ⟨Or.inl rfl, Or.inr rfl, Or.inr rfl, Or.inr rfl, Or.inr rfl, Or.inl rfl, Or.inl rfl, Or.inl rfl, Or.inl rfl, Or.inl rfl, trivial⟩⟩ (fun h => nomatch h) (Nat.le_of_ble_eq_true rfl) ⟨⟨Or.inr (by first | exact ⟨rfl, pR_B _ (by decide)⟩ | exact ⟨rfl, uR_B (by decide) (by decide)⟩), Or.inr rfl, Or.inr trivial, Or.inr trivial, Or.inr trivial, Or.inr trivial, Or.inr trivial, Or.inr trivial, Or.inr trivial, Or.inr trivial, Or.inr trivial, Or.inr trivial, Or.inr trivial, Or.inr trivial, Or.inr trivial, Or.inr trivial, Or.inr trivial, Or.inr trivial, Or.inr trivial, Or.inr trivial, Or.inr trivial, Or.inr trivial, Or.inl rfl, Or.inl rfl, Or.inl rfl, Or.inl rfl, Or.inr trivial, Or.inr trivial, Or.inr trivial, Or.inr trivial, Or.inr trivial, trivial⟩, rfl, rfl, rfl, Nat.le_of_ble_eq_true rfl⟩ rfl zC13 rfl rfl dX1_upward_62 (fun r_62 w_62 hp => ?_) (fun _ _ h => h.elim)
          obtain ⟨rfl, rfl⟩ := hp
          refine z_weq (w' := [zPl _ _, zO _ [zr _ _, zr _ _, zr _ _, zr _ _, zr _ _, zi _, zi _, zr _ _, zr _ _], zH, zH, zH, zH, zH, zH, zH, zH, zH, zH, zH, zH, zH, zH, zH, zH, zH, zH, zH, zH, zO _ [zi _, zi _, zr _ _], zAi 0 24 _, zO _ [zr _ _, zi _, zr _ _, zr _ _, zr _ _, zr _ _, zr _ _, zr _ _, zi _], zMi 4 0 24 24 _, zMi 4 0 24 24 _, zMi 4 0 24 24 _, zMi 4 0 24 24 _, zAi 0 24 _, zAi 0 24 _]) rfl ?_
          refine z_seq (S' := zi _ :: _) rfl ?_
          refine z_goto F (tgt := 69) dX1_upward_65 (by decide) ?_
          refine z_loc [some _, some _, some _, some _, none, none] ⟨rfl, rfl, rfl, rfl, trivial⟩ ?_
          refine z_unfocus F rfl j 22 23 22 hj zput_self rfl rfl (Nat.le_of_ble_eq_true rfl) (Nat.le_of_ble_eq_true rfl) (Nat.le_of_ble_eq_true rfl) (Nat.le_of_ble_eq_true rfl) [zO _ [zr _ _, zr _ _, zr _ _, zr _ _, zr _ _, zi _, zi _, zr _ _, zr _ _], zH, zH, zH, zH, zH, zH, zH, zH, zH, zH, zH, zH, zH, zH, zH, zH, zH, zH, zH, zH] rfl ⟨rfl, trivial, trivial, trivial, trivial, trivial, trivial, trivial, trivial, trivial, trivial, trivial, trivial, trivial, trivial, trivial, trivial, trivial, trivial, trivial, trivial, trivial⟩ uOK rfl rfl ?_
          refine z_weq (w' := zPl (pR (zput P j (some _))) (zput P j (some _)) :: _) (congrArg (fun z => z :: _) uPl2) ?_
          exact z_iret F E rfl dX1_upward_69 (by omega) (by omega) (⟨r0, hr, rfl, by (have e : u = 0 := by omega); subst e; rw [c_46]; rfl, by rw [zput_some hP]; rfl⟩)
        · refine z_iconstB F true dX1_upward_57 rfl ?_
          refine z_goto F (tgt := 62) dX1_upward_58 (by decide) ?_
          refine z_callV F (c_wupward n d (nI d) _ 0 f M1 r0 _ h hc hM hr) 2 rfl (lw_V q1403 q1404 q1405 q141 q1406) (by decide +kernel) ⟨Nat.le_of_ble_eq_true rfl, Nat.le_of_ble_eq_true rfl⟩ ⟨by omega, by omega⟩ [0, 24, 22, 23, 25, 26, 27, 28, 29, 30] 31 ⟨rfl, rfl, rfl, ⟨Or.inl rfl, Or.inr rfl, Or.inr rfl, Or.inr rfl, Or.inr rfl, Or.inl rfl, Or.inl rfl, Or.inl rfl, Or.inl rfl, Or.inl rfl, trivial⟩⟩ (fun h => nomatch h) (Nat.le_of_ble_eq_true rfl) ⟨⟨Or.inr (by first | exact ⟨rfl, pR_B _ (by decide)⟩ | exact ⟨rfl, uR_B (by decide) (by decide)⟩), Or.inr rfl, Or.inr trivial, Or.inr trivial, Or.inr trivial, Or.inr trivial, Or.inr trivial, Or.inr trivial, Or.inr trivial, Or.inr trivial, Or.inr trivial, Or.inr trivial, Or.inr trivial, Or.inr trivial, Or.inr trivial, Or.inr trivial, Or.inr trivial, Or.inr trivial, Or.inr trivial, Or.inr trivial, Or.inr trivial, Or.inr trivial, Or.inl rfl, Or.inl rfl, Or.inl rfl, Or.inl rfl, Or.inr trivial, Or.inr trivial, Or.inr trivial, Or.inr trivial, Or.inr trivial, trivial⟩, rfl, rfl, rfl, Nat.le_of_ble_eq_true rfl⟩ rfl zC13 rfl rfl dX1_upward_62 (fun r_62 w_62 hp => ?_) (fun _ _ h => h.elim)
          obtain ⟨rfl, rfl⟩ := hp
          refine z_weq (w' := [zPl _ _, zO _ [zr _ _, zr _ _, zr _ _, zr _ _, zr _ _, zi _, zi _, zr _ _, zr _ _], zH, zH, zH, zH, zH, zH, zH, zH, zH, zH, zH, zH, zH, zH, zH, zH, zH, zH, zH, zH, zO _ [zi _, zi _, zr _ _], zAi 0 24 _, zO _ [zr _ _, zi _, zr _ _, zr _ _, zr _ _, zr _ _, zr _ _, zr _ _, zi _], zMi 4 0 24 24 _, zMi 4 0 24 24 _, zMi 4 0 24 24 _, zMi 4 0 24 24 _, zAi 0 24 _, zAi 0 24 _]) rfl ?_
          refine z_seq (S' := zi _ :: _) rfl ?_
          refine z_goto F (tgt := 69) dX1_upward_65 (by decide) ?_
          refine z_loc [some _, some _, some _, some _, none, none] ⟨rfl, rfl, rfl, rfl, trivial⟩ ?_
          refine z_unfocus F rfl j 22 23 22 hj zput_self rfl rfl (Nat.le_of_ble_eq_true rfl) (Nat.le_of_ble_eq_true rfl) (Nat.le_of_ble_eq_true rfl) (Nat.le_of_ble_eq_true rfl) [zO _ [zr _ _, zr _ _, zr _ _, zr _ _, zr _ _, zi _, zi _, zr _ _, zr _ _], zH, zH, zH, zH, zH, zH, zH, zH, zH, zH, zH, zH, zH, zH, zH, zH, zH, zH, zH, zH] rfl ⟨rfl, trivial, trivial, trivial, trivial, trivial, trivial, trivial, trivial, trivial, trivial, trivial, trivial, trivial, trivial, trivial, trivial, trivial, trivial, trivial, trivial, trivial⟩ uOK rfl rfl ?_
          refine z_weq (w' := zPl (pR (zput P j (some _))) (zput P j (some _)) :: _) (congrArg (fun z => z :: _) uPl2) ?_
          exact z_iret F E rfl dX1_upward_69 (by omega) (by omega) (⟨r0, hr, rfl, by (have e : u = 1 := by omega); subst e; rw [c_46]; rfl, by rw [zput_some hP]; rfl⟩)
theorem c_pupward_bad (P : zPt) (t : Nat) (fp : Int32) (j n d : Nat) (f : Nat → Int32) (r u : Int32) (hj : j < 8) (h : nok n d f) (hP : P j = some (nI n, nI d, f)) (hu : ∀ i, i < 2 → u ≠ nI i) : zCtr yX1_upward cX1_upward 6 (some .int) 8 190 5700 [zr 1 0, zi (nI j), zi r, zi u] (xH P t fp) (fun r' w => False) (fun E w => E = eNSE ∧ True ∧ w = xH P t fp) := by
  refine z_start (by decide) [some (zr 1 0), some (zi (nI j)), some (zi r), some (zi u), none, none] rfl (fun _ => Nat.le_of_ble_eq_true rfl) (fun _ => rfl) (fun X F E hno hin => ?_)
  have h1 := h.n1
  have h24 := h.n24
  refine z_aload_n F dX1_upward_0 rfl ?_
  refine z_iload_n F dX1_upward_1 rfl ?_
  refine z_callV F (c_netAt_ok P t fp j hj hP) 1 rfl (lw_V q429 q431 qs0 q109 q432) (by decide +kernel) ⟨Nat.le_of_ble_eq_true rfl, Nat.le_of_ble_eq_true rfl⟩ ⟨by omega, by omega⟩ [0, 1, 2, 3, 4, 5, 6, 7, 8, 9, 10, 11, 12, 13, 14, 15, 16, 17, 18, 19, 20, 21] 22 ⟨rfl, rfl, rfl, ⟨Or.inr (congrArg some (zrnP rfl).symm), Or.inr rfl, Or.inl rfl, Or.inl rfl, Or.inl rfl, Or.inl rfl, Or.inl rfl, Or.inl rfl, Or.inl rfl, Or.inl rfl, Or.inl rfl, Or.inl rfl, Or.inl rfl, Or.inl rfl, Or.inl rfl, Or.inl rfl, Or.inl rfl, Or.inl rfl, Or.inl rfl, Or.inl rfl, Or.inl rfl, Or.inl rfl, trivial⟩⟩ (fun _ => rfl) (Nat.le_of_ble_eq_true rfl) ⟨⟨Or.inl rfl, Or.inl rfl, Or.inr trivial, Or.inr trivial, Or.inr trivial, Or.inr trivial, Or.inr trivial, Or.inr trivial, Or.inr trivial, Or.inr trivial, Or.inr trivial, Or.inr trivial, Or.inr trivial, Or.inr trivial, Or.inr trivial, Or.inr trivial, Or.inr trivial, Or.inr trivial, Or.inr trivial, Or.inr trivial, Or.inr trivial, Or.inr trivial, trivial⟩, rfl, rfl, rfl, Nat.le_of_ble_eq_true rfl⟩ rfl zC1 rfl rfl dX1_upward_2 (fun r_2 w_2 hp => ?_) (fun _ _ h => h.elim)
  obtain ⟨rfl, rfl⟩ := hp
  refine z_weq (w' := zPl (pR _) _ :: _) (congrArg (fun z => z :: _) (zrnP rfl)) ?_
  refine z_weq (w' := [zPl _ _, zO _ [zr _ _, zr _ _, zr _ _, zr _ _, zr _ _, zi _, zi _, zr _ _, zr _ _], zH, zH, zH, zH, zH, zH, zH, zH, zH, zH, zH, zH, zH, zH, zH, zH, zH, zH, zH, zH]) rfl ?_
  refine z_seq (S' := zr _ _ :: _) rfl ?_
  refine z_astore F dX1_upward_5 (Nat.le_of_ble_eq_true rfl) ?_
  refine z_leq (L' := [_, _, _, _, _, _]) rfl ?_
  refine z_foc F j hj hP (N := 22) (M := 23) (L' := [_, _, _, _, some (zr 22 0), _]) (S' := []) rfl rfl (Nat.le_of_ble_eq_true rfl) ⟨rfl, trivial, trivial, trivial, trivial, trivial, trivial, trivial, trivial, trivial, trivial, trivial, trivial, trivial, trivial, trivial, trivial, trivial, trivial, trivial, trivial, trivial⟩ ⟨Or.inl rfl, Or.inl rfl, Or.inl rfl, Or.inl rfl, Or.inr ⟨rfl, rfl⟩, Or.inl rfl, trivial⟩ rfl trivial rfl ?_
  refine z_weq (w' := [zPl _ _, zO _ [zr _ _, zr _ _, zr _ _, zr _ _, zr _ _, zi _, zi _, zr _ _, zr _ _], zH, zH, zH, zH, zH, zH, zH, zH, zH, zH, zH, zH, zH, zH, zH, zH, zH, zH, zH, zH, zO _ [zi _, zi _, zr _ _], zAi 0 24 _]) rfl ?_
  refine z_aload F dX1_upward_7 rfl ?_
  refine z_iload_n F dX1_upward_9 rfl ?_
  refine z_callS F (c_knot n (nI d) r h1 h24) 2 rfl (lw_S q500 q501 q109 q502) (by decide +kernel) ⟨Nat.le_of_ble_eq_true rfl, Nat.le_of_ble_eq_true rfl⟩ ⟨by omega, by omega⟩ [0, 22, 23] 24 ⟨rfl, rfl, rfl, ⟨Or.inl rfl, Or.inr rfl, Or.inl rfl, trivial⟩⟩ (fun h => nomatch h) (Nat.le_of_ble_eq_true rfl) ⟨⟨Or.inr (by first | exact ⟨rfl, pR_B _ (by decide)⟩ | exact ⟨rfl, uR_B (by decide) (by decide)⟩), Or.inr rfl, Or.inr trivial, Or.inr trivial, Or.inr trivial, Or.inr trivial, Or.inr trivial, Or.inr trivial, Or.inr trivial, Or.inr trivial, Or.inr trivial, Or.inr trivial, Or.inr trivial, Or.inr trivial, Or.inr trivial, Or.inr trivial, Or.inr trivial, Or.inr trivial, Or.inr trivial, Or.inr trivial, Or.inr trivial, Or.inr trivial, Or.inl rfl, Or.inr trivial, trivial⟩, rfl, rfl, rfl, Nat.le_of_ble_eq_true rfl⟩ rfl rfl dX1_upward_10 (fun r_10 w_10 hp => ?_) (fun E_ w_ hx => by obtain ⟨rfl, hb, rfl⟩ := hx; exact zx_pub F rfl E hno j 22 23 hj hP rfl rfl (Nat.le_of_ble_eq_true rfl) (Nat.le_of_ble_eq_true rfl) (Nat.le_of_ble_eq_true rfl) _ rfl ⟨rfl, trivial, trivial, trivial, trivial, trivial, trivial, trivial, trivial, trivial, trivial, trivial, trivial, trivial, trivial, trivial, trivial, trivial, trivial, trivial, trivial, trivial⟩ (Nat.le_of_ble_eq_true rfl) (by omega) (by omega) (⟨rfl, trivial, rfl⟩))
  obtain ⟨rfl, hb, rfl⟩ := hp
  obtain ⟨r0, hr, rfl⟩ := knB_of h24 hb
  refine z_weq (w' := [zPl _ _, zO _ [zr _ _, zr _ _, zr _ _, zr _ _, zr _ _, zi _, zi _, zr _ _, zr _ _], zH, zH, zH, zH, zH, zH, zH, zH, zH, zH, zH, zH, zH, zH, zH, zH, zH, zH, zH, zH, zO _ [zi _, zi _, zr _ _], zAi 0 24 _]) rfl ?_
  refine z_seq (S' := []) rfl ?_
  refine z_iload_n F dX1_upward_13 rfl ?_
  refine z_if_eq F (tgt := 22) dX1_upward_14 (by decide) (fun c_14 => ?_) (fun c_14 => ?_)
  · exact absurd c_14 (hu 0 (by omega))
  · refine z_iload_n F dX1_upward_17 rfl ?_
    refine z_iconst F (nI 1) dX1_upward_18 rfl ?_
    refine z_icmp_ne F (tgt := 26) dX1_upward_19 (by decide) (fun c_19 => ?_) (fun c_19 => ?_)
    · refine z_iconstB F false dX1_upward_26 rfl ?_
      refine z_callS F (c_fnd false) 1 rfl (lw_S q433 q434 q109 q435) (by decide +kernel) ⟨Nat.le_of_ble_eq_true rfl, Nat.le_of_ble_eq_true rfl⟩ ⟨by omega, by omega⟩ [0] 24 ⟨rfl, rfl, rfl, ⟨Or.inl rfl, trivial⟩⟩ (fun h => nomatch h) (Nat.le_of_ble_eq_true rfl) ⟨⟨Or.inr (by first | exact ⟨rfl, pR_B _ (by decide)⟩ | exact ⟨rfl, uR_B (by decide) (by decide)⟩), Or.inr rfl, Or.inr trivial, Or.inr trivial, Or.inr trivial, Or.inr trivial, Or.inr trivial, Or.inr trivial, Or.inr trivial, Or.inr trivial, Or.inr trivial, Or.inr trivial, Or.inr trivial, Or.inr trivial, Or.inr trivial, Or.inr trivial, Or.inr trivial, Or.inr trivial, Or.inr trivial, Or.inr trivial, Or.inr trivial, Or.inr trivial, Or.inr rfl, Or.inr trivial, trivial⟩, rfl, rfl, rfl, Nat.le_of_ble_eq_true rfl⟩ rfl rfl dX1_upward_27 (fun r_27 w_27 hp => ?_) (fun E_ w_ hx => by obtain ⟨rfl, hb, rfl⟩ := hx; exact zx_pub F rfl E hno j 22 23 hj hP rfl rfl (Nat.le_of_ble_eq_true rfl) (Nat.le_of_ble_eq_true rfl) (Nat.le_of_ble_eq_true rfl) _ rfl ⟨rfl, trivial, trivial, trivial, trivial, trivial, trivial, trivial, trivial, trivial, trivial, trivial, trivial, trivial, trivial, trivial, trivial, trivial, trivial, trivial, trivial, trivial⟩ (Nat.le_of_ble_eq_true rfl) (by omega) (by omega) (⟨rfl, trivial, rfl⟩))
      exact nomatch hp.2.1
    · exact absurd c_19 (hu 1 (by omega))
end C93
