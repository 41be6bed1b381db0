section ZB1
variable {X : zX} {cc : ByteArray} {own : String} {ret : Option FieldType} {nL d mc ms nw : Nat} {np : Bool} {L : List (Option zV)} {S : List zV} {w : List zE} {k n pc : Nat}
theorem bI_nz {b : Bool} : ¬ bI b = 0 ↔ b = true := by cases b <;> decide
theorem bI_z {b : Bool} : bI b = 0 ↔ b = false := by cases b <;> decide
theorem z_if_eqB (F : zFix X cc own ret nL d mc ms nw np) {b : Bool} {off : Int} {tgt : Nat} (hd : decode cc pc = .ok (.ifCond .eq off, 3)) (ht : (pc : Int) + off = (tgt : Int)) (kt : b = false → Z X L S w k n tgt) (kf : b = true → Z X L S w k n (pc + 3)) : Z X L (zi (bI b) :: S) w k n pc := z_if_eq F hd ht (fun q => kt (bI_z.mp q)) (fun q => kf (bI_nz.mp q))
theorem z_if_neB (F : zFix X cc own ret nL d mc ms nw np) {b : Bool} {off : Int} {tgt : Nat} (hd : decode cc pc = .ok (.ifCond .ne off, 3)) (ht : (pc : Int) + off = (tgt : Int)) (kt : b = true → Z X L S w k n tgt) (kf : b = false → Z X L S w k n (pc + 3)) : Z X L (zi (bI b) :: S) w k n pc := z_if_ne F hd ht (fun q => kt (bI_nz.mp q)) (fun q => kf (bI_z.mp q))
theorem z_icmp_eqB (F : zFix X cc own ret nL d mc ms nw np) {b : Bool} {off : Int} {tgt : Nat} (hd : decode cc pc = .ok (.if_icmp .eq off, 3)) (ht : (pc : Int) + off = (tgt : Int)) (kt : b = true → Z X L S w k n tgt) (kf : b = false → Z X L S w k n (pc + 3)) : Z X L (zi (nI 1) :: zi (bI b) :: S) w k n pc := z_icmp_eq F hd ht (fun q => kt (bI_eq1.mp q)) (fun q => kf (by cases b; rfl; exact absurd rfl q))
theorem z_icmp_neB (F : zFix X cc own ret nL d mc ms nw np) {b : Bool} {off : Int} {tgt : Nat} (hd : decode cc pc = .ok (.if_icmp .ne off, 3)) (ht : (pc : Int) + off = (tgt : Int)) (kt : b = false → Z X L S w k n tgt) (kf : b = true → Z X L S w k n (pc + 3)) : Z X L (zi (nI 1) :: zi (bI b) :: S) w k n pc := z_icmp_ne F hd ht (fun q => kt (by cases b; rfl; exact absurd rfl q)) (fun q => kf (bI_eq1.mp q))
theorem z_iandB (F : zFix X cc own ret nL d mc ms nw np) {x : Int32} {j : Nat} (hj : j < 32) (hd : decode cc pc = .ok (.iand, 1)) (kk : Z X L (zi (bI (bt x j)) :: S) w k n (pc + 1)) : Z X L (zi (nI 1) :: zi (x >>> (nI j &&& 31)) :: S) w k n pc := z_iand F hd (by rw [bt_and1 x hj]; exact kk)
theorem z_ishlB (F : zFix X cc own ret nL d mc ms nw np) {j : Nat} (hd : decode cc pc = .ok (.ishl, 1)) (kk : Z X L (zi (b1 j) :: S) w k n (pc + 1)) : Z X L (zi (nI j) :: zi (nI 1) :: S) w k n pc := z_ishl F hd kk
theorem z_iconstB (F : zFix X cc own ret nL d mc ms nw np) {n0 : Int} (b : Bool) (hd : decode cc pc = .ok (.iconst n0, 1)) (hv : Int32.ofInt n0 = bI b) (kk : Z X L (zi (bI b) :: S) w k n (pc + 1)) : Z X L S w k n pc := z_iconst F _ hd hv kk
/-- frames of the reference's fields -/
def frm {α : Type} (l : List Nat) (f g : Nat → α) : Prop := ∀ i, i ∉ l → g i = f i
theorem frm.rf {α : Type} {l : List Nat} {f : Nat → α} : frm l f f := fun _ _ => rfl
theorem frm.tr {α : Type} {l l' l2 : List Nat} {f g h : Nat → α} (a : frm l f g) (b : frm l' g h) (h1 : ∀ i ∈ l, i ∈ l2) (h2 : ∀ i ∈ l', i ∈ l2) : frm l2 f h := fun i hi => (b i (fun q => hi (h2 i q))).trans (a i (fun q => hi (h1 i q)))
theorem frm.tr' {α : Type} {l l' l2 : List Nat} {f g h : Nat → α} (b : frm l' g h) (a : frm l f g) (h1 : ∀ i ∈ l', i ∈ l2) (h2 : ∀ i ∈ l, i ∈ l2) : frm l2 f h := a.tr b h2 h1
theorem frm.to {α : Type} {l l2 : List Nat} {f g : Nat → α} (a : frm l f g) (h1 : ∀ i ∈ l, i ∈ l2) : frm l2 f g := fun i hi => a i (fun q => hi (h1 i q))
theorem frm.at {α : Type} {l : List Nat} {f g : Nat → α} (a : frm l f g) (i : Nat) (h : l.contains i = false) : g i = f i := a i (fun q => by simp [q] at h)
theorem frm_upd {l : List Nat} {f g : Nat → Int32} {i : Nat} {x : Int32} (a : frm l f g) (h : i ∈ l) : frm l f (upd g i x) := fun j hj => by
  have : j ≠ i := fun q => hj (q ▸ h)
  simp only [upd, this, if_false]; exact a j hj
theorem frm_zup {α : Type} {l : List Nat} {f g : Nat → Nat → α} {i j : Nat} {x : α} (a : frm l f g) (h : i ∈ l) : frm l f (zup2 g i j x) := fun q hq => by
  have : q ≠ i := fun e => hq (e ▸ h)
  rw [zup2_ne this]; exact a q hq
theorem frm_fA {α : Type} {l : List Nat} {f g : Nat → Nat → α} {i : Nat} {x : Nat → α} (a : frm l f g) (h : i ∈ l) : frm l f (fA g i x) := fun q hq => by
  have : q ≠ i := fun e => hq (e ▸ h)
  rw [fA_ne this]; exact a q hq
theorem zup2_at {α : Type} {M : Nat → Nat → α} {i j b : Nat} {x : α} : zup2 M i j x i b = if b = j then x else M i b := by simp [zup2]
theorem upd_at (f : Nat → Int32) (k : Nat) (x : Int32) (j : Nat) : upd f k x j = if j = k then x else f j := rfl
end ZB1
