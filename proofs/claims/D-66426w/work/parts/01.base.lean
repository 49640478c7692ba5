/-! PART 01: the layer over W: abstract values, abstract heaps, the judgement zJ -/
abbrev zV : Type := Int32 ⊕ (Nat ⊕ (Int64 ⊕ Unit))
abbrev zI (x : Int32) : zV := .inl x
abbrev zA (a : Nat) : zV := .inr (.inl a)
abbrev zL (x : Int64) : zV := .inr (.inr (.inl x))
/-- the script -/
abbrev zS : zV := .inr (.inr (.inr ()))
/-- a reference: 0 is null -/
def zr (a : Nat) : Value := if a = 0 then .null else .ref a
def zv (b : Nat) (v : zV) : Value := match v with
  | .inl x => .int x
  | .inr (.inl a) => zr a
  | .inr (.inr (.inl x)) => .long x
  | .inr (.inr (.inr _)) => .ref b
theorem zr_ref {a : Nat} (h : a ≠ 0) : zr a = .ref a := if_neg h
theorem zr_null : zr 0 = .null := rfl
/-- the heap: size; slots made; kind of a cell; length of an array; ints; references; longs (by address and slot) -/
abbrev zH : Type := Nat × Nat × (Nat → Nat) × (Nat → Nat) × (Nat → Nat → Int32) × (Nat → Nat → Nat) × (Nat → Nat → Int64)
abbrev zn (h : zH) : Nat := h.1
abbrev zs (h : zH) : Nat := h.2.1
abbrev zt (h : zH) : Nat → Nat := h.2.2.1
abbrev zl (h : zH) : Nat → Nat := h.2.2.2.1
abbrev zi (h : zH) : Nat → Nat → Int32 := h.2.2.2.2.1
abbrev za (h : zH) : Nat → Nat → Nat := h.2.2.2.2.2.1
abbrev zj (h : zH) : Nat → Nat → Int64 := h.2.2.2.2.2.2
def zu {α : Type} (f : Nat → Nat → α) (a k : Nat) (v : α) : Nat → Nat → α := fun b j => if b = a ∧ j = k then v else f b j
def zw {α : Type} (f : Nat → α) (a : Nat) (v : α) : Nat → α := fun b => if b = a then v else f b
theorem zu_s {α : Type} {f : Nat → Nat → α} {a k : Nat} {v : α} : zu f a k v a k = v := by simp [zu]
theorem zu_a {α : Type} {f : Nat → Nat → α} {a k b j : Nat} {v : α} (h : b ≠ a) : zu f a k v b j = f b j := by simp [zu, h]
theorem zu_k {α : Type} {f : Nat → Nat → α} {a k b j : Nat} {v : α} (h : j ≠ k) : zu f a k v b j = f b j := by simp [zu, h]
theorem zw_s {α : Type} {f : Nat → α} {a : Nat} {v : α} : zw f a v a = v := by simp [zw]
theorem zw_n {α : Type} {f : Nat → α} {a b : Nat} {v : α} (h : b ≠ a) : zw f a v b = f b := by simp [zw, h]
abbrev zsi (h : zH) (a k : Nat) (v : Int32) : zH := (zn h, zs h, zt h, zl h, zu (zi h) a k v, za h, zj h)
abbrev zsa (h : zH) (a k : Nat) (v : Nat) : zH := (zn h, zs h, zt h, zl h, zi h, zu (za h) a k v, zj h)
abbrev zsj (h : zH) (a k : Nat) (v : Int64) : zH := (zn h, zs h, zt h, zl h, zi h, za h, zu (zj h) a k v)
/-- a new cell of kind c, of so many slots, of length n -/
abbrev znew (h : zH) (c sl n : Nat) : zH := (zn h + 1, zs h + sl, zw (zt h) (zn h) c, zw (zl h) (zn h) n, zw (zi h) (zn h) (fun _ => 0), zw (za h) (zn h) (fun _ => 0), zw (zj h) (zn h) (fun _ => 0))
/-- what a method comes to: it returned (with what); it threw (an object of a kind, its address) -/
abbrev zO : Type := Option zV ⊕ (Nat × Nat)
abbrev zR (v : zV) : zO := .inl (some v)
abbrev zR0 : zO := .inl none
abbrev zX (c a : Nat) : zO := .inr (c, a)
def zo (b : Nat) (o : zO) : Outcome := match o with
  | .inl v => .returned (v.map (zv b))
  | .inr q => .threw q.2
/-- a method: name, bytes, locals, what it returns, its handlers -/
abbrev zM : Type := MethodName × ByteArray × Nat × Option FieldType × List (Nat × Nat × Nat × Nat)
/-- locals by their places -/
def zal (b i : Nat) : List (Option zV) → List (Nat × Value)
  | [] => []
  | none :: t => zal b (i + 1) t
  | some v :: t => (i, zv b v) :: zal b (i + 1) t
