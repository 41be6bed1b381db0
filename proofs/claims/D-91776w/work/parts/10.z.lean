/-! THE Z LAYER: a method's frame and world as lists of abstract values; a row an instruction, no heap in sight -/
def zTx : u_T := fun _ => ("", "", "", false)
def zcl : List vw_C := [(RX1, TX1, 9), (RX1, TX1, 9), (RX2, TX2, 4), (RX3, TX3, 4), (RX4, TX4, 14), (RX5, TX5, 3), (RX6, TX6, 75), (RX7, TX7, 11), (RX8, TX8, 7), (RX9, TX9, 3), (RX1, TX1, 9), (RX11, TX11, 11), (RX12, TX12, 6), (RX13, TX13, 9), (RX14, TX14, 3), (RJ2, TJ2, 3), (RJ8, TJ8, 1)]
abbrev zV : Type := Value ⊕ (Nat × Nat)
abbrev zi (x : Int32) : zV := Sum.inl (Value.int x)
abbrev zl (x : Int64) : zV := Sum.inl (Value.long x)
abbrev zr (p j : Nat) : zV := Sum.inr (p, j)
abbrev zn : zV := Sum.inl Value.null
def zcv (ad : Nat → Nat → Nat) (v : zV) : Value := match v with
  | .inl u => u
  | .inr q => .ref (ad q.1 q.2)
abbrev zC : Type := (Nat → Int32) ⊕ (Nat → Int64) ⊕ (Nat → zV)
/-- a cell: an object (its class's number, its fields) or an array (its type's number, its length, what it holds) -/
abbrev zc : Type := (Nat × List zV) ⊕ (Nat × Nat × zC)
abbrev zB : Type := (Nat → Int32) × (Nat → Int64) × (Nat → Nat → Int32) × (Nat → Nat → Int64)
abbrev zP : Type := (Nat → zV) × (Nat → Option (Int32 × Int32 × (Nat → Int32)))
/-- an entry of a world: an object; an array; a matrix; the reference's object with its arrays; the slots; nothing -/
abbrev zE : Type := (Nat × List zV) ⊕ (Nat × Nat × zC) ⊕ (Nat × Nat × Nat × Nat × ((Nat → Nat → Int32) ⊕ (Nat → Nat → Int64))) ⊕ zB ⊕ zP ⊕ Unit
abbrev zO (ci : Nat) (fs : List zV) : zE := .inl (ci, fs)
abbrev zAi (t n : Nat) (f : Nat → Int32) : zE := .inr (.inl (t, n, .inl f))
abbrev zAl (t n : Nat) (f : Nat → Int64) : zE := .inr (.inl (t, n, .inr (.inl f)))
abbrev zAr (t n : Nat) (f : Nat → zV) : zE := .inr (.inl (t, n, .inr (.inr f)))
abbrev zMi (t te n k : Nat) (f : Nat → Nat → Int32) : zE := .inr (.inr (.inl (t, te, n, k, .inl f)))
abbrev zMl (t te n k : Nat) (f : Nat → Nat → Int64) : zE := .inr (.inr (.inl (t, te, n, k, .inr f)))
abbrev zG (F : Nat → Int32) (G : Nat → Int64) (A : Nat → Nat → Int32) (B : Nat → Nat → Int64) : zE := .inr (.inr (.inr (.inl (F, G, A, B))))
abbrev zPl (R : Nat → zV) (P : Nat → Option (Int32 × Int32 × (Nat → Int32))) : zE := .inr (.inr (.inr (.inr (.inl (R, P)))))
abbrev zH : zE := .inr (.inr (.inr (.inr (.inr ()))))
/-- the reference's fields: 0 an int, 1 a long, 2 an array of ints, bytes or booleans, 3 an array of longs; the type's number; the length -/
def zmT (k : Nat) : Nat × Nat × Nat := match k with
  | 1 => (2, 0, 8) | 2 => (2, 0, 8) | 3 => (2, 0, 192) | 6 => (2, 0, 24) | 7 => (2, 0, 400) | 17 => (1, 0, 0) | 18 => (2, 0, 13)
  | 21 => (2, 0, 96) | 22 => (2, 0, 96) | 23 => (2, 0, 576) | 26 => (2, 0, 2304) | 27 => (2, 0, 48) | 28 => (2, 0, 48)
  | 29 => (3, 1, 13) | 30 => (3, 1, 144) | 31 => (3, 1, 144) | 32 => (3, 1, 24) | 33 => (3, 1, 24) | 35 => (2, 0, 11250)
  | 36 => (2, 0, 24) | 37 => (2, 0, 25) | 43 => (2, 0, 576) | 44 => (2, 0, 24) | 50 => (2, 2, 32768) | 51 => (2, 2, 32768)
  | 52 => (2, 0, 36) | 53 => (2, 0, 6) | 54 => (2, 0, 504) | 55 => (2, 0, 504) | 56 => (2, 0, 504) | 57 => (2, 0, 504)
  | 59 => (2, 0, 2) | 62 => (2, 0, 24) | 63 => (2, 0, 24) | 64 => (2, 0, 24) | 65 => (2, 0, 576) | 66 => (2, 2, 576)
  | 67 => (2, 0, 576) | 68 => (2, 0, 24) | 69 => (2, 0, 24) | 70 => (2, 0, 24) | 71 => (2, 0, 24) | 72 => (2, 0, 48)
  | 73 => (2, 2, 1024) | 74 => (2, 2, 1024) | _ => (0, 0, 0)
def zmF (p : Nat) (b : zB) (k : Nat) : zV := match (zmT k).1 with
  | 0 => zi (b.1 k)
  | 1 => zl (b.2.1 k)
  | _ => zr p (k + 1)
def zmA (b : zB) (k : Nat) : Option zc := match (zmT k).1 with
  | 2 => some (.inr ((zmT k).2.1, (zmT k).2.2, .inl (b.2.2.1 k)))
  | 3 => some (.inr ((zmT k).2.1, (zmT k).2.2, .inr (.inl (b.2.2.2 k))))
  | _ => none
def zcell (p : Nat) (e : zE) (j : Nat) : Option zc := match e with
  | .inl o => if j = 0 then some (.inl o) else none
  | .inr (.inl a) => if j = 0 then some (.inr a) else none
  | .inr (.inr (.inl m)) => match j with
    | 0 => some (.inr (m.1, m.2.2.1, .inr (.inr (fun i => zr p (i + 1)))))
    | i + 1 => if i < m.2.2.1 then some (.inr (m.2.1, m.2.2.2.1, match m.2.2.2.2 with
      | .inl f => .inl (f i)
      | .inr f => .inr (.inl (f i)))) else none
  | .inr (.inr (.inr (.inl b))) => match j with
    | 0 => some (.inl (6, (List.range 75).map (zmF p b)))
    | k + 1 => zmA b k
  | .inr (.inr (.inr (.inr (.inl q)))) => match j with
    | 0 => some (.inr (7, 8, .inr (.inr q.1)))
    | i + 1 => if i / 2 < 8 then match q.2 (i / 2) with
      | none => none
      | some x => if i % 2 = 0 then some (.inl (5, [zi x.1, zi x.2.1, zr p (i + 2)])) else some (.inr (0, 24, .inl x.2.2)) else none
  | .inr (.inr (.inr (.inr (.inr _)))) => none
def zat (w : List zE) (p j : Nat) : Option zc := (w[p]?).bind fun e => zcell p e j
def zop (v : Value) : Option Nat := match v with
  | .ref a => some a
  | _ => none
def zcc (cA : Nat → ClassId) (ad : Nat → Nat → Nat) (c : zc) : va_E := match c with
  | .inl o => .inr (o.1, o.2.map (zcv ad))
  | .inr a => .inl (cA a.1, a.2.1, match a.2.2 with
    | .inl f => .inl f
    | .inr (.inl f) => .inr (.inl f)
    | .inr (.inr f) => .inr (.inr (.inr (.inr (fun i => zop (zcv ad (f i)))))))
def zts (cA : Nat → ClassId) : List (ClassId × FieldType) := [(cA 0, .int), (cA 1, .long), (cA 2, .boolean), (cA 3, .byte), (cA 4, .array .int), (cA 5, .array .long), (cA 6, .array .boolean), (cA 7, .object "WiredNets$Net"), (cA 8, .object "java/lang/Object")]
def zRel (D : va_G) (cA : Nat → ClassId) (ad : Nat → Nat → Nat) (w : List zE) (H : Heap) : Prop := ∀ p j c, zat w p j = some c → va_at D zcl (ad p j, zcc cA ad c) H
def zInj (ad : Nat → Nat → Nat) (w : List zE) (A : Nat → Prop) : Prop := (∀ p j p' j' c c', zat w p j = some c → zat w p' j' = some c' → ad p j = ad p' j' → p = p' ∧ j = j') ∧ ∀ p j c, zat w p j = some c → A (ad p j)
def zisPe (e : zE) : Bool := match e with
  | .inr (.inr (.inr (.inr (.inl _)))) => true
  | _ => false
def zisP (w : List zE) : Bool := match w with
  | e :: _ => zisPe e
  | _ => false
/-- the places that a method was given stay where they are (place 0, where the slots lie, not) -/
def zAg (w : List zE) (ad0 ad : Nat → Nat → Nat) : Prop := ∀ p j, (p = 0 → zisP w = false) → p < w.length → ad p j = ad0 p j
def zfr (ad : Nat → Nat → Nat) (w : List zE) (sz : Nat) : Nat → Prop := fun q => (∃ p j c, zat w p j = some c ∧ q = ad p j) ∨ sz ≤ q
def zal (ad : Nat → Nat → Nat) (L : List (Option zV)) : List (Nat × Value) := L.zipIdx.filterMap fun q => q.1.map fun v => (q.2, zcv ad v)
def zLh (ad : Nat → Nat → Nat) (ls : Array Slot) (L : List (Option zV)) : Prop := lv_has ls L.length (zal ad L)
theorem zal_mem {ad : Nat → Nat → Nat} {L : List (Option zV)} {i : Nat} {u : Value} : (i, u) ∈ zal ad L ↔ ∃ v, L[i]? = some (some v) ∧ u = zcv ad v := by
  unfold zal
  rw [List.mem_filterMap]
  constructor
  · rintro ⟨⟨o, k⟩, h1, h2⟩
    rw [List.mem_zipIdx_iff_getElem?] at h1
    cases o with
    | none => simp at h2
    | some v =>
      simp only [Option.map_some, Option.some.injEq, Prod.mk.injEq] at h2
      obtain ⟨rfl, rfl⟩ := h2
      exact ⟨v, h1, rfl⟩
  · rintro ⟨v, h1, rfl⟩
    exact ⟨(some v, i), List.mem_zipIdx_iff_getElem?.mpr h1, rfl⟩
/-- a frame's fixed things -/
abbrev zX : Type := (Program × Launch × Env × Room × State × MethodId × Array Value × List Frame × Method × Code) × (State → Prop) × va_G × (Nat → ClassId) × (Nat → Prop) × (Nat → Nat → Nat) × List zE
def zWj (X : zX) (H : Heap) (locs : List Loc) (k n : Nat) (g : JFrame) : Prop := W X.1.1 X.1.2.1 X.1.2.2.1 X.1.2.2.2.1 X.1.2.2.2.2.1 X.1.2.2.2.2.2.1 X.1.2.2.2.2.2.2.1 X.1.2.2.2.2.2.2.2.1 X.1.2.2.2.2.2.2.2.2.1 X.1.2.2.2.2.2.2.2.2.2 H locs k n X.2.1 g
/-- from pc, with the locals L, the stack S, the world w, k cells of n slots made, the method comes to its end -/
def Z (X : zX) (L : List (Option zV)) (S : List zV) (w : List zE) (k n pc : Nat) : Prop :=
  ∀ (ad : Nat → Nat → Nat) (H : Heap) (locs : List Loc) (ls : Array Slot), zAg X.2.2.2.2.2.2 X.2.2.2.2.2.1 ad → zRel X.2.2.1 X.2.2.2.1 ad w H → zInj ad w X.2.2.2.2.1 → va_S X.2.2.2.2.1 X.1.2.2.2.2.1.heap H locs → zLh ad ls L →
    zWj X H locs k n (F0 X.1.2.2.2.2.2.1 pc ls (S.map (zcv ad)))
