/-! Ways: the constructor -/
section C79
theorem c_floodInit : zCtr yX2_init cX2_init 1 none 2 1 24 [zr 1 0] [zH, zO 2 [zn, zi 0, zi 0, zi 0]] (fun r w => r = none ∧ w = [zH, eFl 2 0 0 0, zAi 0 24 (fun _ => 0)]) zNx := by
  refine z_start (by decide) [some (zr 1 0)] rfl (fun _ => Nat.le_of_ble_eq_true rfl) (fun _ => rfl) (fun X F E hno hin => ?_)
  refine z_aload_n F dX2_init_0 rfl ?_
  refine z_objInit F q158 q149 q150 dX2_init_1 (Nat.le_of_ble_eq_true rfl) rfl (Nat.le_of_ble_eq_true rfl) ?_
  refine z_aload_n F dX2_init_4 rfl ?_
  refine z_bipush F (nI 24) dX2_init_5 rfl ?_
  refine z_newaI F _ 2 q174 (nI_pos (by omega)) (zcl_n (by omega)) (by omega) rfl (Nat.le_of_ble_eq_true rfl) ⟨trivial, rfl, trivial⟩ rfl rfl ⟨by omega, by omega⟩ dX2_init_7 ?_
  refine z_weq (w' := [_, _, _]) rfl ?_
  refine z_putF F zC2 (f := 0) rfl (Nat.le_of_ble_eq_true rfl) q159 rfl hin rfl (fun _ => rfl) (fun _ => rfl) (Nat.le_of_ble_eq_true rfl) dX2_init_9 ?_
  refine z_weq (w' := [_, zO _ [_, _, _, _], _]) rfl ?_
  exact z_vret F E rfl dX2_init_12 (by omega) (by omega) (⟨rfl, rfl⟩)
def frow (n : Nat) (f : Nat → Int32) (a : Nat) (L : Nat → Nat → Int32) : Nat → Nat → Nat → Int32
  | 0 => L
  | b + 1 => fwk n f b (dN n f a b) a (frow n f a L b)
def fall (n : Nat) (f : Nat → Int32) : Nat → Nat → Nat → Int32
  | 0 => fun _ _ => 0
  | a + 1 => frow n f a (fall n f a) n
abbrev wWi (n d : Nat) (f : Nat → Int32) (jo : Bool) (M Hm L Fo : Nat → Nat → Int32) (sn g sm : Int32) (D : Nat → Int32) : List zE := [zH, eWy 2 4 5 6 7 8 9 (bI jo) 0, eNet 3 (nI n) (nI d), zAi 0 24 f, zMi 4 0 24 24 M, zMi 4 0 24 24 Hm, zMi 4 0 24 24 L, zMi 4 0 24 24 Fo, zAi 0 24 (fun _ => 0), zAi 0 24 (fun _ => 0), eFl 11 sn g sm, zAi 0 24 D]
abbrev wWz (n d : Nat) (f : Nat → Int32) (jo : Bool) (M Hm L Fo : Nat → Nat → Int32) : List zE := [zH, eWy 2 4 5 6 7 8 9 (bI jo) 0, eNet 3 (nI n) (nI d), zAi 0 24 f, zMi 4 0 24 24 M, zMi 4 0 24 24 Hm, zMi 4 0 24 24 L, zMi 4 0 24 24 Fo, zAi 0 24 (fun _ => 0), zAi 0 24 (fun _ => 0)]
def wyF (n : Nat) (f : Nat → Int32) (M Hm : Nat → Nat → Int32) : Prop := (∀ x k, x < n → k < n → M x k = dI (dst n f (allB n) x k)) ∧ ∀ x y, x < n → y < n → Hm x y = if x = y then -1 else nI (hv n f x y)
theorem bI_fit (b : Bool) : fits .boolean (.int (bI b)) = true := by cases b <;> rfl
theorem c_waysInit (n d : Nat) (f : Nat → Int32) (h : nok n d f) : zCtr yX13_init cX13_init 5 none 4 110 2600 [zr 1 0, zr 2 0] [zH, zO 13 [zn, zi 0, zn, zn, zn, zn, zn, zn, zi 0], eNet 3 (nI n) (nI d), zAi 0 24 f] (fun r w => r = none ∧ ∃ M Hm L Fo, w = wWz n d f (cjn n f) M Hm L Fo ∧ (cjn n f = true → wyF n f M Hm ∧ L = lall n f n ∧ Fo = fall n f n) ∧ (cjn n f = false → L = fun _ _ => 0)) zNx := by
  refine z_start (by decide) [some (zr 1 0), some (zr 2 0), none, none, none] rfl (fun _ => Nat.le_of_ble_eq_true rfl) (fun _ => rfl) (fun X F E hno hin => ?_)
  have hn := h.n24
  have hn1 := h.n1
  have hall : ∀ i, i < 32 → bt (allB n) i = true → i < n := fun i _ q => al_lt hn i q
  have hcc := cjn_conn h.n1 h.n24 (fun a b ha hb => h.sym ha hb)
  -- the walks
  have wr : ∀ (M Hm : Nat → Nat → Int32) (sn g sm : Int32) (D : Nat → Int32), cjn n f = true → wyF n f M Hm → ∀ (a : Nat), a < n → (Z X [some (zr 1 0), some (zr 2 0), some (zr 10 0), some (zi (nI (a + 1))), none] [] (wWi n d f (cjn n f) M Hm (lall n f (a + 1)) (fall n f (a + 1)) sn g sm D) 110 2600 219) →
      ∀ (m b : Nat), n - b < m → b ≤ n → Z X [some (zr 1 0), some (zr 2 0), some (zr 10 0), some (zi (nI a)), some (zi (nI b))] [] (wWi n d f (cjn n f) M Hm (lrow n f a (lall n f a) b) (frow n f a (fall n f a) b) sn g sm D) 110 2600 237 := by
    intro M Hm sn g sm D hc hw a ha kk m
    have hcn := hcc.mp hc
    induction m with
    | zero => intro b hm; omega
    | succ m ih =>
      intro b hm hb
      refine z_iload F dX13_init_237 rfl ?_
      refine z_aload_n F dX13_init_239 rfl ?_
      refine z_getN F zC5 (f := 0) rfl (Nat.le_of_ble_eq_true rfl) q239 rfl dX13_init_240 ?_
      refine z_icmp_geN F (by omega) (by omega) (tgt := 259) dX13_init_243 (by decide) (fun c_243 => ?_) (fun c_243 => ?_)
      · refine z_iincN F 1 dX13_init_259 rfl rfl ?_
        refine z_leq (L' := [_, _, _, _, _]) rfl ?_
        refine z_goto F (tgt := 219) dX13_init_262 (by decide) ?_
        rw [show b = n by omega]
        refine z_loc _ ?_ kk
        exact ⟨rfl, rfl, rfl, rfl, trivial⟩
      · refine z_aload_n F dX13_init_246 rfl ?_
        refine z_iload_n F dX13_init_247 rfl ?_
        refine z_iload F dX13_init_248 rfl ?_
        refine z_callV F (c_wwalk n d f (bI (cjn n f)) 0 Hm _ _ a b (dN n f a b) h hcn ha (by omega) (dN_eq hn hcn ha (by omega)) (fun x y hx hy hxy => by rw [hw.2 x y hx hy, if_neg hxy])) 2 rfl (lw_V q1313 q1315 qs33 q141 q1316) (by decide +kernel) ⟨Nat.le_of_ble_eq_true rfl, Nat.le_of_ble_eq_true rfl⟩ ⟨by omega, by omega⟩ [0, 1, 2, 3, 4, 5, 6, 7, 8, 9] 12 ⟨rfl, rfl, rfl, ⟨Or.inl rfl, Or.inr rfl, Or.inl rfl, Or.inl rfl, Or.inl rfl, Or.inr rfl, Or.inr rfl, Or.inr rfl, Or.inl rfl, Or.inl rfl, trivial⟩⟩ (fun h => nomatch h) (Nat.le_of_ble_eq_true rfl) ⟨⟨Or.inr trivial, Or.inl rfl, Or.inr rfl, Or.inr trivial, Or.inr trivial, Or.inl rfl, Or.inl rfl, Or.inl rfl, Or.inr trivial, Or.inr trivial, Or.inr rfl, Or.inr trivial, trivial⟩, rfl, rfl, rfl, Nat.le_of_ble_eq_true rfl⟩ rfl zC13 rfl rfl dX13_init_250 (fun r_250 w_250 hp => ?_) (fun _ _ h => h.elim)
        obtain ⟨rfl, rfl⟩ := hp
        refine z_weq (w' := [zH, zO _ [zr _ _, zi _, zr _ _, zr _ _, zr _ _, zr _ _, zr _ _, zr _ _, zi _], zO _ [zi _, zi _, zr _ _], zAi 0 24 _, zMi 4 0 24 24 _, zMi 4 0 24 24 _, zMi 4 0 24 24 _, zMi 4 0 24 24 _, zAi 0 24 _, zAi 0 24 _, zO _ [zr _ _, zi _, zi _, zi _], zAi 0 24 _]) rfl ?_
        refine z_seq (S' := []) rfl ?_
        refine z_iincN F 1 dX13_init_253 rfl rfl ?_
        refine z_leq (L' := [_, _, _, _, _]) rfl ?_
        refine z_goto F (tgt := 237) dX13_init_256 (by decide) ?_
        exact ih (b + 1) (by omega) (by omega)
  have wo : ∀ (M Hm : Nat → Nat → Int32) (sn g sm : Int32) (D : Nat → Int32), cjn n f = true → wyF n f M Hm → ∀ (m a : Nat), n - a < m → a ≤ n → Z X [some (zr 1 0), some (zr 2 0), some (zr 10 0), some (zi (nI a)), none] [] (wWi n d f (cjn n f) M Hm (lall n f a) (fall n f a) sn g sm D) 110 2600 219 := by
    intro M Hm sn g sm D hc hw m
    induction m with
    | zero => intro a hm; omega
    | succ m ih =>
      intro a hm ha
      refine z_iload_n F dX13_init_219 rfl ?_
      refine z_aload_n F dX13_init_220 rfl ?_
      refine z_getN F zC5 (f := 0) rfl (Nat.le_of_ble_eq_true rfl) q239 rfl dX13_init_221 ?_
      refine z_icmp_geN F (by omega) (by omega) (tgt := 265) dX13_init_224 (by decide) (fun c_224 => ?_) (fun c_224 => ?_)
      · refine z_take F 10 [zH, zO _ [zr _ _, zi _, zr _ _, zr _ _, zr _ _, zr _ _, zr _ _, zr _ _, zi _], zO _ [zi _, zi _, zr _ _], zAi 0 24 _, zMi 4 0 24 24 _, zMi 4 0 24 24 _, zMi 4 0 24 24 _, zMi 4 0 24 24 _, zAi 0 24 _, zAi 0 24 _] rfl ?_
        exact z_vret F E rfl dX13_init_265 (by omega) (by omega) (⟨rfl, M, Hm, _, _, rfl, fun _ => ⟨hw, by rw [show a = n by omega], by rw [show a = n by omega]⟩, fun q => by rw [hc] at q; cases q⟩)
      · refine z_aload_n F dX13_init_227 rfl ?_
        refine z_get F zC13 (f := 1) rfl (Nat.le_of_ble_eq_true rfl) q1318 rfl dX13_init_228 ?_
        refine z_if_eqB F (tgt := 265) dX13_init_231 (by decide) (fun c_231 => ?_) (fun c_231 => ?_)
        · rw [hc] at c_231; cases c_231
        · refine z_iconst F (nI 0) dX13_init_234 rfl ?_
          refine z_istore F dX13_init_235 (Nat.le_of_ble_eq_true rfl) ?_
          refine z_leq (L' := [_, _, _, _, _]) rfl ?_
          exact wr M Hm sn g sm D hc hw a (by omega) (ih (a + 1) (by omega) (by omega)) (n + 1) 0 (by omega) (by omega)
  have wu : ∀ (M Hm : Nat → Nat → Int32) (sn g sm : Int32) (D : Nat → Int32), cjn n f = false → Z X [some (zr 1 0), some (zr 2 0), some (zr 10 0), some (zi (nI 0)), none] [] (wWi n d f (cjn n f) M Hm (fun _ _ => 0) (fun _ _ => 0) sn g sm D) 110 2600 219 := by
    intro M Hm sn g sm D hc
    refine z_iload_n F dX13_init_219 rfl ?_
    refine z_aload_n F dX13_init_220 rfl ?_
    refine z_getN F zC5 (f := 0) rfl (Nat.le_of_ble_eq_true rfl) q239 rfl dX13_init_221 ?_
    refine z_icmp_geN F (by omega) (by omega) (tgt := 265) dX13_init_224 (by decide) (fun c_224 => ?_) (fun c_224 => ?_)
    · exact absurd c_224 (by omega)
    · refine z_aload_n F dX13_init_227 rfl ?_
      refine z_get F zC13 (f := 1) rfl (Nat.le_of_ble_eq_true rfl) q1318 rfl dX13_init_228 ?_
      refine z_if_eqB F (tgt := 265) dX13_init_231 (by decide) (fun c_231 => ?_) (fun c_231 => ?_)
      · refine z_take F 10 [zH, zO _ [zr _ _, zi _, zr _ _, zr _ _, zr _ _, zr _ _, zr _ _, zr _ _, zi _], zO _ [zi _, zi _, zr _ _], zAi 0 24 _, zMi 4 0 24 24 _, zMi 4 0 24 24 _, zMi 4 0 24 24 _, zMi 4 0 24 24 _, zAi 0 24 _, zAi 0 24 _] rfl ?_
        exact z_vret F E rfl dX13_init_265 (by omega) (by omega) (⟨rfl, M, Hm, _, _, rfl, (fun q => by rw [hc] at q; cases q), fun _ => rfl⟩)
      · rw [hc] at c_231; cases c_231
  have hr : ∀ (M : Nat → Nat → Int32) (sn g sm : Int32) (D : Nat → Int32), cjn n f = true → (∀ x k, x < n → k < n → M x k = dI (dst n f (allB n) x k)) → ∀ (a : Nat), a < n → (∀ Hm, (∀ x y, x < n → y < n → x < a + 1 → Hm x y = if x = y then -1 else nI (hv n f x y)) → Z X [some (zr 1 0), some (zr 2 0), some (zr 10 0), some (zi (nI (a + 1))), none] [] (wWi n d f (cjn n f) M Hm (fun _ _ => 0) (fun _ _ => 0) sn g sm D) 110 2600 152) →
      ∀ (m b : Nat) (Hm : Nat → Nat → Int32), n - b < m → b ≤ n → (∀ x y, x < n → y < n → (x < a ∨ x = a ∧ y < b) → Hm x y = if x = y then -1 else nI (hv n f x y)) → Z X [some (zr 1 0), some (zr 2 0), some (zr 10 0), some (zi (nI a)), some (zi (nI b))] [] (wWi n d f (cjn n f) M Hm (fun _ _ => 0) (fun _ _ => 0) sn g sm D) 110 2600 170 := by
    intro M sn g sm D hc hM a ha kk m
    have hcn := hcc.mp hc
    induction m with
    | zero => intro b Hm hm; omega
    | succ m ih =>
      intro b Hm hm hb hH
      have nx : ∀ v, b < n → v = (if a = b then -1 else nI (hv n f a b)) → Z X [some (zr 1 0), some (zr 2 0), some (zr 10 0), some (zi (nI a)), some (zi (nI (b + 1)))] [] (wWi n d f (cjn n f) M (zup2 Hm a b v) (fun _ _ => 0) (fun _ _ => 0) sn g sm D) 110 2600 170 := fun v hbn hv' => ih (b + 1) _ (by omega) (by omega) (fun x y hx hy hxy => by
        rw [zup2_pq]
        by_cases q : x = a ∧ y = b
        · rw [if_pos q, hv', q.1, q.2]
        · rw [if_neg q]; exact hH x y hx hy (by omega))
      refine z_iload F dX13_init_170 rfl ?_
      refine z_aload_n F dX13_init_172 rfl ?_
      refine z_getN F zC5 (f := 0) rfl (Nat.le_of_ble_eq_true rfl) q239 rfl dX13_init_173 ?_
      refine z_icmp_geN F (by omega) (by omega) (tgt := 211) dX13_init_176 (by decide) (fun c_176 => ?_) (fun c_176 => ?_)
      · refine z_iincN F 1 dX13_init_211 rfl rfl ?_
        refine z_leq (L' := [_, _, _, _, _]) rfl ?_
        refine z_goto F (tgt := 152) dX13_init_214 (by decide) ?_
        rw [show b = n by omega] at hH
        refine z_loc _ ?_ (kk Hm (fun x y hx hy q => hH x y hx hy (by omega)))
        exact ⟨rfl, rfl, rfl, rfl, trivial⟩
      · refine z_aload_n F dX13_init_179 rfl ?_
        refine z_get F zC13 (f := 3) rfl (Nat.le_of_ble_eq_true rfl) q1321 rfl dX13_init_180 ?_
        refine z_iload_n F dX13_init_183 rfl ?_
        refine z_aaldMN F rfl (Or.inl rfl) (Nat.le_of_ble_eq_true rfl) (by omega) dX13_init_184 ?_
        refine z_iload F dX13_init_185 rfl ?_
        refine z_iload_n F dX13_init_187 rfl ?_
        refine z_iload F dX13_init_188 rfl ?_
        refine z_icmp_neN F (by omega) (by omega) (tgt := 197) dX13_init_190 (by decide) (fun c_190 => ?_) (fun c_190 => ?_)
        · refine z_aload_n F dX13_init_197 rfl ?_
          refine z_iload_n F dX13_init_198 rfl ?_
          refine z_iload F dX13_init_199 rfl ?_
          refine z_callV F (c_wstep n (nI d) (bI (cjn n f)) 0 f M a b hn ha (by omega) hM (hpm_lt h hcn ha (by omega) c_190)) 2 rfl (lw_V q1308 q1310 qs32 q141 q1311) (by decide +kernel) ⟨Nat.le_of_ble_eq_true rfl, Nat.le_of_ble_eq_true rfl⟩ ⟨by omega, by omega⟩ [0, 1, 2, 3, 4, 5, 6, 7, 8, 9] 12 ⟨rfl, rfl, rfl, ⟨Or.inl rfl, Or.inr rfl, Or.inr rfl, Or.inr rfl, Or.inr rfl, Or.inl rfl, Or.inl rfl, Or.inl rfl, Or.inl rfl, Or.inl rfl, trivial⟩⟩ (fun h => nomatch h) (Nat.le_of_ble_eq_true rfl) ⟨⟨Or.inr trivial, Or.inl rfl, Or.inl rfl, Or.inl rfl, Or.inl rfl, Or.inr trivial, Or.inr trivial, Or.inr trivial, Or.inr trivial, Or.inr trivial, Or.inr rfl, Or.inr trivial, trivial⟩, rfl, rfl, rfl, Nat.le_of_ble_eq_true rfl⟩ rfl zC13 rfl rfl dX13_init_201 (fun r_201 w_201 hp => ?_) (fun _ _ h => h.elim)
          obtain ⟨rfl, rfl⟩ := hp
          refine z_weq (w' := [zH, zO _ [zr _ _, zi _, zr _ _, zr _ _, zr _ _, zr _ _, zr _ _, zr _ _, zi _], zO _ [zi _, zi _, zr _ _], zAi 0 24 _, zMi 4 0 24 24 _, zMi 4 0 24 24 _, zMi 4 0 24 24 _, zMi 4 0 24 24 _, zAi 0 24 _, zAi 0 24 _, zO _ [zr _ _, zi _, zi _, zi _], zAi 0 24 _]) rfl ?_
          refine z_seq (S' := zi _ :: _) rfl ?_
          refine z_iastMN F rfl (by omega) (Nat.le_of_ble_eq_true rfl) (by omega) dX13_init_204 ?_
          refine z_weq (w' := [_, _, _, _, _, _, _, _, _, _, _, _]) rfl ?_
          refine z_iincN F 1 dX13_init_205 rfl rfl ?_
          refine z_leq (L' := [_, _, _, _, _]) rfl ?_
          refine z_goto F (tgt := 170) dX13_init_208 (by decide) ?_
          exact nx _ (by omega) (by rw [if_neg c_190]; rfl)
        · refine z_iconst F (-1) dX13_init_193 rfl ?_
          refine z_goto F (tgt := 204) dX13_init_194 (by decide) ?_
          refine z_iastMN F rfl (by omega) (Nat.le_of_ble_eq_true rfl) (by omega) dX13_init_204 ?_
          refine z_weq (w' := [_, _, _, _, _, _, _, _, _, _, _, _]) rfl ?_
          refine z_iincN F 1 dX13_init_205 rfl rfl ?_
          refine z_leq (L' := [_, _, _, _, _]) rfl ?_
          refine z_goto F (tgt := 170) dX13_init_208 (by decide) ?_
          exact nx _ (by omega) (by rw [if_pos c_190])
  have ho : ∀ (M : Nat → Nat → Int32) (sn g sm : Int32) (D : Nat → Int32), cjn n f = true → (∀ x k, x < n → k < n → M x k = dI (dst n f (allB n) x k)) → ∀ (m a : Nat) (Hm : Nat → Nat → Int32), n - a < m → a ≤ n → (∀ x y, x < n → y < n → x < a → Hm x y = if x = y then -1 else nI (hv n f x y)) → Z X [some (zr 1 0), some (zr 2 0), some (zr 10 0), some (zi (nI a)), none] [] (wWi n d f (cjn n f) M Hm (fun _ _ => 0) (fun _ _ => 0) sn g sm D) 110 2600 152 := by
    intro M sn g sm D hc hM m
    induction m with
    | zero => intro a Hm hm; omega
    | succ m ih =>
      intro a Hm hm ha hH
      refine z_iload_n F dX13_init_152 rfl ?_
      refine z_aload_n F dX13_init_153 rfl ?_
      refine z_getN F zC5 (f := 0) rfl (Nat.le_of_ble_eq_true rfl) q239 rfl dX13_init_154 ?_
      refine z_icmp_geN F (by omega) (by omega) (tgt := 217) dX13_init_157 (by decide) (fun c_157 => ?_) (fun c_157 => ?_)
      · refine z_iconst F (nI 0) dX13_init_217 rfl ?_
        refine z_istore_n F dX13_init_218 (Nat.le_of_ble_eq_true rfl) ?_
        refine z_leq (L' := [_, _, _, _, _]) rfl ?_
        exact wo M Hm sn g sm D hc ⟨hM, fun x y hx hy => hH x y hx hy (by omega)⟩ (n + 1) 0 (by omega) (by omega)
      · refine z_aload_n F dX13_init_160 rfl ?_
        refine z_get F zC13 (f := 1) rfl (Nat.le_of_ble_eq_true rfl) q1318 rfl dX13_init_161 ?_
        refine z_if_eqB F (tgt := 217) dX13_init_164 (by decide) (fun c_164 => ?_) (fun c_164 => ?_)
        · rw [hc] at c_164; cases c_164
        · refine z_iconst F (nI 0) dX13_init_167 rfl ?_
          refine z_istore F dX13_init_168 (Nat.le_of_ble_eq_true rfl) ?_
          refine z_leq (L' := [_, _, _, _, _]) rfl ?_
          exact hr M sn g sm D hc hM a (by omega) (fun H2 g2 => ih (a + 1) H2 (by omega) (by omega) g2) (n + 1) 0 Hm (by omega) (by omega) (fun x y hx hy q => hH x y hx hy (by omega))
  have hu : ∀ (M Hm : Nat → Nat → Int32) (sn g sm : Int32) (D : Nat → Int32), cjn n f = false → Z X [some (zr 1 0), some (zr 2 0), some (zr 10 0), some (zi (nI 0)), none] [] (wWi n d f (cjn n f) M Hm (fun _ _ => 0) (fun _ _ => 0) sn g sm D) 110 2600 152 := by
    intro M Hm sn g sm D hc
    refine z_iload_n F dX13_init_152 rfl ?_
    refine z_aload_n F dX13_init_153 rfl ?_
    refine z_getN F zC5 (f := 0) rfl (Nat.le_of_ble_eq_true rfl) q239 rfl dX13_init_154 ?_
    refine z_icmp_geN F (by omega) (by omega) (tgt := 217) dX13_init_157 (by decide) (fun c_157 => ?_) (fun c_157 => ?_)
    · exact absurd c_157 (by omega)
    · refine z_aload_n F dX13_init_160 rfl ?_
      refine z_get F zC13 (f := 1) rfl (Nat.le_of_ble_eq_true rfl) q1318 rfl dX13_init_161 ?_
      refine z_if_eqB F (tgt := 217) dX13_init_164 (by decide) (fun c_164 => ?_) (fun c_164 => ?_)
      · refine z_iconst F (nI 0) dX13_init_217 rfl ?_
        refine z_istore_n F dX13_init_218 (Nat.le_of_ble_eq_true rfl) ?_
        refine z_leq (L' := [_, _, _, _, _]) rfl ?_
        exact wu M Hm sn g sm D hc
      · rw [hc] at c_164; cases c_164
  -- the distances
  have fr_ : ∀ (a : Nat) (sn g sm : Int32) (D : Nat → Int32), a < n → (∀ k e, k < 32 → dst n f (allB n) a k = some e → D k = nI e) → (∀ M, (∀ x k, x < n → k < n → x < a + 1 → ∀ e, dst n f (allB n) x k = some e → M x k = nI e) → Z X [some (zr 1 0), some (zr 2 0), some (zr 10 0), some (zi (nI (a + 1))), none] [] (wWi n d f (cjn n f) M (fun _ _ => 0) (fun _ _ => 0) (fun _ _ => 0) sn g sm D) 110 2600 92) →
      ∀ (m b : Nat) (M : Nat → Nat → Int32), n - b < m → b ≤ n → (∀ x k, x < n → k < n → (x < a ∨ x = a ∧ k < b) → ∀ e, dst n f (allB n) x k = some e → M x k = nI e) → Z X [some (zr 1 0), some (zr 2 0), some (zr 10 0), some (zi (nI a)), some (zi (nI b))] [] (wWi n d f (cjn n f) M (fun _ _ => 0) (fun _ _ => 0) (fun _ _ => 0) sn g sm D) 110 2600 113 := by
    intro a sn g sm D ha hD kk m
    induction m with
    | zero => intro b M hm; omega
    | succ m ih =>
      intro b M hm hb hM
      refine z_iload F dX13_init_113 rfl ?_
      refine z_aload_n F dX13_init_115 rfl ?_
      refine z_getN F zC5 (f := 0) rfl (Nat.le_of_ble_eq_true rfl) q239 rfl dX13_init_116 ?_
      refine z_icmp_geN F (by omega) (by omega) (tgt := 144) dX13_init_119 (by decide) (fun c_119 => ?_) (fun c_119 => ?_)
      · refine z_iincN F 1 dX13_init_144 rfl rfl ?_
        refine z_leq (L' := [_, _, _, _, _]) rfl ?_
        refine z_goto F (tgt := 92) dX13_init_147 (by decide) ?_
        rw [show b = n by omega] at hM
        refine z_loc _ ?_ (kk M (fun x k hx hk q => hM x k hx hk (by omega)))
        exact ⟨rfl, rfl, rfl, rfl, trivial⟩
      · refine z_aload_n F dX13_init_122 rfl ?_
        refine z_get F zC13 (f := 2) rfl (Nat.le_of_ble_eq_true rfl) q1320 rfl dX13_init_123 ?_
        refine z_iload_n F dX13_init_126 rfl ?_
        refine z_aaldMN F rfl (Or.inl rfl) (Nat.le_of_ble_eq_true rfl) (by omega) dX13_init_127 ?_
        refine z_iload F dX13_init_128 rfl ?_
        refine z_aload_n F dX13_init_130 rfl ?_
        refine z_getN F zC2 (f := 0) rfl (Nat.le_of_ble_eq_true rfl) q160 rfl dX13_init_131 ?_
        refine z_iload F dX13_init_134 rfl ?_
        refine z_ialdN F rfl (Nat.le_of_ble_eq_true rfl) (by omega) rfl dX13_init_136 ?_
        refine z_iastMN F rfl (by omega) (Nat.le_of_ble_eq_true rfl) (by omega) dX13_init_137 ?_
        refine z_weq (w' := [_, _, _, _, _, _, _, _, _, _, _, _]) rfl ?_
        refine z_iincN F 1 dX13_init_138 rfl rfl ?_
        refine z_leq (L' := [_, _, _, _, _]) rfl ?_
        refine z_goto F (tgt := 113) dX13_init_141 (by decide) ?_
        refine ih (b + 1) _ (by omega) (by omega) (fun x k hx hk q e he => ?_)
        rw [zup2_pq]
        by_cases q2 : x = a ∧ k = b
        · rw [if_pos q2]; exact hD b e (by omega) (by rw [← q2.1, ← q2.2]; exact he)
        · rw [if_neg q2]; exact hM x k hx hk (by omega) e he
  have fo : ∀ (m a : Nat) (M : Nat → Nat → Int32) (sn g sm : Int32) (D : Nat → Int32), n - a < m → a ≤ n → (∀ x k, x < n → k < n → x < a → ∀ e, dst n f (allB n) x k = some e → M x k = nI e) → Z X [some (zr 1 0), some (zr 2 0), some (zr 10 0), some (zi (nI a)), none] [] (wWi n d f (cjn n f) M (fun _ _ => 0) (fun _ _ => 0) (fun _ _ => 0) sn g sm D) 110 2600 92 := by
    intro m
    induction m with
    | zero => intro a M sn g sm D hm; omega
    | succ m ih =>
      intro a M sn g sm D hm ha hM
      refine z_iload_n F dX13_init_92 rfl ?_
      refine z_aload_n F dX13_init_93 rfl ?_
      refine z_getN F zC5 (f := 0) rfl (Nat.le_of_ble_eq_true rfl) q239 rfl dX13_init_94 ?_
      refine z_icmp_geN F (by omega) (by omega) (tgt := 150) dX13_init_97 (by decide) (fun c_97 => ?_) (fun c_97 => ?_)
      · refine z_iconst F (nI 0) dX13_init_150 rfl ?_
        refine z_istore_n F dX13_init_151 (Nat.le_of_ble_eq_true rfl) ?_
        refine z_leq (L' := [_, _, _, _, _]) rfl ?_
        cases hc : cjn n f with
        | false => rw [← hc]; exact hu M _ _ _ _ _ hc
        | true =>
          rw [← hc]
          have hcn := hcc.mp hc
          exact ho M _ _ _ _ hc (fun x k hx hk => by
            have e1 := dN_eq hn hcn hx hk
            rw [hM x k hx hk (by omega) _ e1, e1]; rfl) (n + 1) 0 _ (by omega) (by omega) (fun x y hx hy q => by omega)
      · refine z_aload_n F dX13_init_100 rfl ?_
        refine z_aload_n F dX13_init_101 rfl ?_
        refine z_iload_n F dX13_init_102 rfl ?_
        refine z_aload_n F dX13_init_103 rfl ?_
        refine z_callV F (c_all n (nI d) hn) 0 rfl (lw_V q1306 q800 q801 q116 q802) (by decide +kernel) ⟨Nat.le_of_ble_eq_true rfl, Nat.le_of_ble_eq_true rfl⟩ ⟨by omega, by omega⟩ [0, 2, 3] 12 ⟨rfl, rfl, rfl, ⟨Or.inl rfl, Or.inr rfl, Or.inl rfl, trivial⟩⟩ (fun h => nomatch h) (Nat.le_of_ble_eq_true rfl) ⟨⟨Or.inr trivial, Or.inr rfl, Or.inl rfl, Or.inr trivial, Or.inr trivial, Or.inr trivial, Or.inr trivial, Or.inr trivial, Or.inr trivial, Or.inr trivial, Or.inr rfl, Or.inr trivial, trivial⟩, rfl, rfl, rfl, Nat.le_of_ble_eq_true rfl⟩ rfl zC5 rfl rfl dX13_init_104 (fun r_104 w_104 hp => ?_) (fun _ _ h => h.elim)
        obtain ⟨rfl, rfl⟩ := hp
        refine z_weq (w' := [zH, zO _ [zr _ _, zi _, zr _ _, zr _ _, zr _ _, zr _ _, zr _ _, zr _ _, zi _], zO _ [zi _, zi _, zr _ _], zAi 0 24 _, zMi 4 0 24 24 _, zMi 4 0 24 24 _, zMi 4 0 24 24 _, zMi 4 0 24 24 _, zAi 0 24 _, zAi 0 24 _, zO _ [zr _ _, zi _, zi _, zi _], zAi 0 24 _]) rfl ?_
        refine z_seq (S' := zi _ :: _) rfl ?_
        refine z_callV F (c_run n a (nI d) f (allB n) _ _ _ _ hn (by omega) hall) 3 rfl (lw_V q1307 q804 q805 q110 q806) (by decide +kernel) ⟨Nat.le_of_ble_eq_true rfl, Nat.le_of_ble_eq_true rfl⟩ ⟨by omega, by omega⟩ [0, 10, 11, 2, 3] 12 ⟨rfl, rfl, rfl, ⟨Or.inl rfl, Or.inr rfl, Or.inr rfl, Or.inr rfl, Or.inr rfl, trivial⟩⟩ (fun h => nomatch h) (Nat.le_of_ble_eq_true rfl) ⟨⟨Or.inr trivial, Or.inr rfl, Or.inl rfl, Or.inl rfl, Or.inr trivial, Or.inr trivial, Or.inr trivial, Or.inr trivial, Or.inr trivial, Or.inr trivial, Or.inl rfl, Or.inl rfl, trivial⟩, rfl, rfl, rfl, Nat.le_of_ble_eq_true rfl⟩ rfl zC2 rfl rfl dX13_init_107 (fun r_107 w_107 hp => ?_) (fun _ _ h => h.elim)
        obtain ⟨rfl, D1, rfl, t2⟩ := hp
        refine z_weq (w' := [zH, zO _ [zr _ _, zi _, zr _ _, zr _ _, zr _ _, zr _ _, zr _ _, zr _ _, zi _], zO _ [zi _, zi _, zr _ _], zAi 0 24 _, zMi 4 0 24 24 _, zMi 4 0 24 24 _, zMi 4 0 24 24 _, zMi 4 0 24 24 _, zAi 0 24 _, zAi 0 24 _, zO _ [zr _ _, zi _, zi _, zi _], zAi 0 24 _]) rfl ?_
        refine z_seq (S' := []) rfl ?_
        refine z_iconst F (nI 0) dX13_init_110 rfl ?_
        refine z_istore F dX13_init_111 (Nat.le_of_ble_eq_true rfl) ?_
        refine z_leq (L' := [_, _, _, _, _]) rfl ?_
        exact fr_ a _ _ _ D1 (by omega) t2 (fun M2 g2 => ih (a + 1) M2 _ _ _ D1 (by omega) (by omega) g2) (n + 1) 0 M (by omega) (by omega) (fun x k hx hk q => hM x k hx hk (by omega))
  refine z_aload_n F dX13_init_0 rfl ?_
  refine z_objInit F q1301 q149 q150 dX13_init_1 (Nat.le_of_ble_eq_true rfl) rfl (Nat.le_of_ble_eq_true rfl) ?_
  refine z_aload_n F dX13_init_4 rfl ?_
  refine z_bipush F (nI 24) dX13_init_5 rfl ?_
  refine z_bipush F (nI 24) dX13_init_7 rfl ?_
  refine z_multiI F 24 24 4 q1302 q182 q174 (nI_pos (by omega)) (zcl_n (by omega)) (nI_pos (by omega)) (zcl_n (by omega)) (⟨by omega, by omega⟩) rfl (Nat.le_of_ble_eq_true rfl) ⟨trivial, rfl, rfl, trivial, trivial⟩ rfl rfl ⟨by omega, by omega⟩ dX13_init_9 ?_
  refine z_weq (w' := [_, _, _, _, _]) rfl ?_
  refine z_putF F zC13 (f := 2) rfl (Nat.le_of_ble_eq_true rfl) q1320 rfl hin rfl (fun _ => rfl) (fun _ => rfl) (Nat.le_of_ble_eq_true rfl) dX13_init_13 ?_
  refine z_weq (w' := [_, zO _ [_, _, _, _, _, _, _, _, _], _, _, _]) rfl ?_
  refine z_aload_n F dX13_init_16 rfl ?_
  refine z_bipush F (nI 24) dX13_init_17 rfl ?_
  refine z_bipush F (nI 24) dX13_init_19 rfl ?_
  refine z_multiI F 24 24 5 q1302 q182 q174 (nI_pos (by omega)) (zcl_n (by omega)) (nI_pos (by omega)) (zcl_n (by omega)) (⟨by omega, by omega⟩) rfl (Nat.le_of_ble_eq_true rfl) ⟨trivial, rfl, rfl, trivial, trivial, trivial⟩ rfl rfl ⟨by omega, by omega⟩ dX13_init_21 ?_
  refine z_weq (w' := [_, _, _, _, _, _]) rfl ?_
  refine z_putF F zC13 (f := 3) rfl (Nat.le_of_ble_eq_true rfl) q1321 rfl hin rfl (fun _ => rfl) (fun _ => rfl) (Nat.le_of_ble_eq_true rfl) dX13_init_25 ?_
  refine z_weq (w' := [_, zO _ [_, _, _, _, _, _, _, _, _], _, _, _, _]) rfl ?_
  refine z_aload_n F dX13_init_28 rfl ?_
  refine z_bipush F (nI 24) dX13_init_29 rfl ?_
  refine z_bipush F (nI 24) dX13_init_31 rfl ?_
  refine z_multiI F 24 24 6 q1302 q182 q174 (nI_pos (by omega)) (zcl_n (by omega)) (nI_pos (by omega)) (zcl_n (by omega)) (⟨by omega, by omega⟩) rfl (Nat.le_of_ble_eq_true rfl) ⟨trivial, rfl, rfl, trivial, trivial, trivial, trivial⟩ rfl rfl ⟨by omega, by omega⟩ dX13_init_33 ?_
  refine z_weq (w' := [_, _, _, _, _, _, _]) rfl ?_
  refine z_putF F zC13 (f := 4) rfl (Nat.le_of_ble_eq_true rfl) q1323 rfl hin rfl (fun _ => rfl) (fun _ => rfl) (Nat.le_of_ble_eq_true rfl) dX13_init_37 ?_
  refine z_weq (w' := [_, zO _ [_, _, _, _, _, _, _, _, _], _, _, _, _, _]) rfl ?_
  refine z_aload_n F dX13_init_40 rfl ?_
  refine z_bipush F (nI 24) dX13_init_41 rfl ?_
  refine z_bipush F (nI 24) dX13_init_43 rfl ?_
  refine z_multiI F 24 24 7 q1302 q182 q174 (nI_pos (by omega)) (zcl_n (by omega)) (nI_pos (by omega)) (zcl_n (by omega)) (⟨by omega, by omega⟩) rfl (Nat.le_of_ble_eq_true rfl) ⟨trivial, rfl, rfl, trivial, trivial, trivial, trivial, trivial⟩ rfl rfl ⟨by omega, by omega⟩ dX13_init_45 ?_
  refine z_weq (w' := [_, _, _, _, _, _, _, _]) rfl ?_
  refine z_putF F zC13 (f := 5) rfl (Nat.le_of_ble_eq_true rfl) q1325 rfl hin rfl (fun _ => rfl) (fun _ => rfl) (Nat.le_of_ble_eq_true rfl) dX13_init_49 ?_
  refine z_weq (w' := [_, zO _ [_, _, _, _, _, _, _, _, _], _, _, _, _, _, _]) rfl ?_
  refine z_aload_n F dX13_init_52 rfl ?_
  refine z_bipush F (nI 24) dX13_init_53 rfl ?_
  refine z_newaI F 24 8 q174 (nI_pos (by omega)) (zcl_n (by omega)) (by omega) rfl (Nat.le_of_ble_eq_true rfl) ⟨trivial, rfl, rfl, trivial, trivial, trivial, trivial, trivial, trivial⟩ rfl rfl ⟨by omega, by omega⟩ dX13_init_55 ?_
  refine z_weq (w' := [_, _, _, _, _, _, _, _, _]) rfl ?_
  refine z_putF F zC13 (f := 6) rfl (Nat.le_of_ble_eq_true rfl) q1326 rfl hin rfl (fun _ => rfl) (fun _ => rfl) (Nat.le_of_ble_eq_true rfl) dX13_init_57 ?_
  refine z_weq (w' := [_, zO _ [_, _, _, _, _, _, _, _, _], _, _, _, _, _, _, _]) rfl ?_
  refine z_aload_n F dX13_init_60 rfl ?_
  refine z_bipush F (nI 24) dX13_init_61 rfl ?_
  refine z_newaI F 24 9 q174 (nI_pos (by omega)) (zcl_n (by omega)) (by omega) rfl (Nat.le_of_ble_eq_true rfl) ⟨trivial, rfl, rfl, trivial, trivial, trivial, trivial, trivial, trivial, trivial⟩ rfl rfl ⟨by omega, by omega⟩ dX13_init_63 ?_
  refine z_weq (w' := [_, _, _, _, _, _, _, _, _, _]) rfl ?_
  refine z_putF F zC13 (f := 7) rfl (Nat.le_of_ble_eq_true rfl) q1327 rfl hin rfl (fun _ => rfl) (fun _ => rfl) (Nat.le_of_ble_eq_true rfl) dX13_init_65 ?_
  refine z_weq (w' := [_, zO _ [_, _, _, _, _, _, _, _, _], _, _, _, _, _, _, _, _]) rfl ?_
  refine z_aload_n F dX13_init_68 rfl ?_
  refine z_aload_n F dX13_init_69 rfl ?_
  refine z_putF F zC13 (f := 0) rfl (Nat.le_of_ble_eq_true rfl) q1317 rfl hin rfl (fun _ => rfl) (fun _ => rfl) (Nat.le_of_ble_eq_true rfl) dX13_init_70 ?_
  refine z_weq (w' := [_, zO _ [_, _, _, _, _, _, _, _, _], _, _, _, _, _, _, _, _]) rfl ?_
  refine z_new F 10 [zn, zi 0, zi 0, zi 0] zC2 q1303 q154 q110 (fun _ j hj => by match j, hj with | 0, _ => rfl | 1, _ => rfl | 2, _ => rfl | 3, _ => rfl) rfl (Nat.le_of_ble_eq_true rfl) (Nat.le_of_ble_eq_true rfl) ⟨trivial, rfl, rfl, trivial, trivial, trivial, trivial, trivial, trivial, trivial, trivial⟩ rfl rfl ⟨by omega, by omega⟩ dX13_init_73 ?_
  refine z_weq (w' := [_, _, _, _, _, _, _, _, _, _, _]) rfl ?_
  refine z_dup F dX13_init_76 rfl ?_
  refine z_callIN F (c_floodInit) 0 rfl (lw_meth q157) q110 q1304 q156 rfl (by decide +kernel) ⟨Nat.le_of_ble_eq_true rfl, Nat.le_of_ble_eq_true rfl⟩ ⟨by omega, by omega⟩ [0, 10] 11 ⟨rfl, rfl, rfl, ⟨Or.inl rfl, Or.inr rfl, trivial⟩⟩ (fun h => nomatch h) (Nat.le_of_ble_eq_true rfl) ⟨⟨Or.inr trivial, Or.inr rfl, Or.inr rfl, Or.inr trivial, Or.inr trivial, Or.inr trivial, Or.inr trivial, Or.inr trivial, Or.inr trivial, Or.inr trivial, Or.inl rfl, trivial⟩, rfl, rfl, rfl, Nat.le_of_ble_eq_true rfl⟩ rfl rfl dX13_init_77 (fun r_77 w_77 hp => ?_) (fun _ _ h => h.elim)
  obtain ⟨rfl, rfl⟩ := hp
  refine z_weq (w' := [zH, zO _ [zr _ _, zi _, zr _ _, zr _ _, zr _ _, zr _ _, zr _ _, zr _ _, zi _], zO _ [zi _, zi _, zr _ _], zAi 0 24 _, zMi 4 0 24 24 _, zMi 4 0 24 24 _, zMi 4 0 24 24 _, zMi 4 0 24 24 _, zAi 0 24 _, zAi 0 24 _, zO _ [zr _ _, zi _, zi _, zi _], zAi 0 24 _]) rfl ?_
  refine z_seq (S' := [_]) rfl ?_
  refine z_astore_n F dX13_init_80 (Nat.le_of_ble_eq_true rfl) ?_
  refine z_leq (L' := [_, _, _, _, _]) rfl ?_
  refine z_aload_n F dX13_init_81 rfl ?_
  refine z_aload_n F dX13_init_82 rfl ?_
  refine z_aload_n F dX13_init_83 rfl ?_
  refine z_callV F (c_cjn n (nI d) f _ _ _ _ hn hn1) 1 rfl (lw_V q1305 q819 q820 q110 q821) (by decide +kernel) ⟨Nat.le_of_ble_eq_true rfl, Nat.le_of_ble_eq_true rfl⟩ ⟨by omega, by omega⟩ [0, 10, 11, 2, 3] 12 ⟨rfl, rfl, rfl, ⟨Or.inl rfl, Or.inr rfl, Or.inr rfl, Or.inr rfl, Or.inr rfl, trivial⟩⟩ (fun h => nomatch h) (Nat.le_of_ble_eq_true rfl) ⟨⟨Or.inr trivial, Or.inr rfl, Or.inl rfl, Or.inl rfl, Or.inr trivial, Or.inr trivial, Or.inr trivial, Or.inr trivial, Or.inr trivial, Or.inr trivial, Or.inl rfl, Or.inl rfl, trivial⟩, rfl, rfl, rfl, Nat.le_of_ble_eq_true rfl⟩ rfl zC2 rfl rfl dX13_init_84 (fun r_84 w_84 hp => ?_) (fun _ _ h => h.elim)
  obtain ⟨rfl, sn1, g1, sm1, D1, rfl⟩ := hp
  refine z_weq (w' := [zH, zO _ [zr _ _, zi _, zr _ _, zr _ _, zr _ _, zr _ _, zr _ _, zr _ _, zi _], zO _ [zi _, zi _, zr _ _], zAi 0 24 _, zMi 4 0 24 24 _, zMi 4 0 24 24 _, zMi 4 0 24 24 _, zMi 4 0 24 24 _, zAi 0 24 _, zAi 0 24 _, zO _ [zr _ _, zi _, zi _, zi _], zAi 0 24 _]) rfl ?_
  refine z_seq (S' := zi _ :: _) rfl ?_
  refine z_putF F zC13 (f := 1) rfl (Nat.le_of_ble_eq_true rfl) q1318 rfl hin rfl (fun _ => bI_nar _) (fun _ => bI_fit _) (Nat.le_of_ble_eq_true rfl) dX13_init_87 ?_
  refine z_weq (w' := [_, zO _ [_, _, _, _, _, _, _, _, _], _, _, _, _, _, _, _, _, _, _]) rfl ?_
  refine z_iconst F (nI 0) dX13_init_90 rfl ?_
  refine z_istore_n F dX13_init_91 (Nat.le_of_ble_eq_true rfl) ?_
  refine z_leq (L' := [_, _, _, _, _]) rfl ?_
  refine z_widen (k' := 110) (n' := 2600) (by omega) (by omega) ?_
  exact fo (n + 1) 0 _ _ _ _ D1 (by omega) (by omega) (fun x k hx hk q => by omega)
end C79
