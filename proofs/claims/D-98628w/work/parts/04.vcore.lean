/-! THE VIRTUAL MACHINE: memory at virtual addresses (the cells that the law's run makes, in their order), and one judgement over it. The walk of a method shows that it computes a term; the terms are plain Lean. -/
set_option maxRecDepth 100000
/-- ints, longs, references by cell and place; kind and length by cell; how many cells, how many places were made -/
abbrev vMem : Type := (Nat → Nat → Int32) × (Nat → Nat → Int64) × (Nat → Nat → Option Nat) × (Nat → Nat × Nat) × Nat × Nat
def gi (σ : vMem) (a k : Nat) : Int32 := σ.1 a k
def gl (σ : vMem) (a k : Nat) : Int64 := σ.2.1 a k
def gr (σ : vMem) (a k : Nat) : Option Nat := σ.2.2.1 a k
def knd (σ : vMem) (a : Nat) : Nat := (σ.2.2.2.1 a).1
def len (σ : vMem) (a : Nat) : Nat := (σ.2.2.2.1 a).2
def mn (σ : vMem) : Nat := σ.2.2.2.2.1
def mz (σ : vMem) : Nat := σ.2.2.2.2.2
def up2 {α : Type} (f : Nat → Nat → α) (a k : Nat) (v : α) : Nat → Nat → α := fun b j => if b = a ∧ j = k then v else f b j
def si (σ : vMem) (a k : Nat) (v : Int32) : vMem := (up2 σ.1 a k v, σ.2)
def sl (σ : vMem) (a k : Nat) (v : Int64) : vMem := (σ.1, up2 σ.2.1 a k v, σ.2.2)
def sr (σ : vMem) (a k : Nat) (v : Option Nat) : vMem := (σ.1, σ.2.1, up2 σ.2.2.1 a k v, σ.2.2.2)
/-- a new cell of a kind, of so many places -/
def alc (σ : vMem) (k n : Nat) : vMem := (fun b j => if b = mn σ then 0 else σ.1 b j, fun b j => if b = mn σ then 0 else σ.2.1 b j, fun b j => if b = mn σ then none else σ.2.2.1 b j, fun b => if b = mn σ then (k, n) else σ.2.2.2.1 b, mn σ + 1, mz σ + n)
/-- what an array of ints (of references) holds, copied -/
def cpi (σ : vMem) (a sp b dp n : Nat) : vMem := (fun x j => if x = b ∧ dp ≤ j ∧ j < dp + n then σ.1 a (sp + (j - dp)) else σ.1 x j, σ.2)
def cpr (σ : vMem) (a sp b dp n : Nat) : vMem := (σ.1, σ.2.1, fun x j => if x = b ∧ dp ≤ j ∧ j < dp + n then σ.2.2.1 a (sp + (j - dp)) else σ.2.2.1 x j, σ.2.2.2)
/-- a clone of an array of ints -/
def cln (σ : vMem) (a : Nat) : vMem := (fun b j => if b = mn σ then σ.1 a j else σ.1 b j, fun b j => if b = mn σ then 0 else σ.2.1 b j, fun b j => if b = mn σ then none else σ.2.2.1 b j, fun b => if b = mn σ then (knd σ a, len σ a) else σ.2.2.2.1 b, mn σ + 1, mz σ + len σ a)
/-! what a term is made of -/
def ck {α : Type} (c : Prop) [Decidable c] (t : Option α) : Option α := if c then t else none
def cko {α : Type} (σ : vMem) (a : Nat) (S : List Nat) (t : Option α) : Option α := if knd σ a ∈ S then t else none
def cka {α : Type} (σ : vMem) (a k : Nat) (i : Int32) (t : Option α) : Option α := if knd σ a = k ∧ ¬ (i < 0 ∨ len σ a ≤ i.toNatClampNeg) then t else none
def dr {α : Type} (o : Option Nat) (f : Nat → Option α) : Option α := match o with
  | none => none
  | some a => f a
def onr {α : Type} (o : Option Nat) (t : Option α) (f : Nat → Option α) : Option α := match o with
  | none => t
  | some a => f a
def vl {α β : Type} (x : α) (f : α → β) : β := f x
def bp {α β : Type} (o : Option α) (f : α → Option β) : Option β := match o with
  | none => none
  | some p => f p
def bd {α β : Type} (o : Option (α × vMem)) (f : α → vMem → Option β) : Option β := bp o (fun p => f p.1 p.2)
def bv {β : Type} (o : Option vMem) (f : vMem → Option β) : Option β := bp o f
/-- of a method that may throw: an answer, or a thrown object -/
def bx {α β : Type} (o : Option ((α × vMem) ⊕ (Nat × vMem))) (f : α → vMem → Option β) (h : Nat → vMem → Option β) : Option β := match o with
  | none => none
  | some (.inl p) => f p.1 p.2
  | some (.inr p) => h p.1 p.2
/-- so many rounds of a loop are looked at, at the most -/
def FU : Nat := 1048576
/-! the real heap behind it -/
def SB : Nat := 1000000
def adr (E : vEnv) (a : Nat) : Nat := if a < SB then E.1 + a else E.2 (a - SB)
def rv (E : vEnv) : Value → Value
  | .ref a => .ref (adr E a)
  | v => v
def fv (E : vEnv) (σ : vMem) (a j : Nat) (t : Nat) : Value := match t with
  | 0 => .int (gi σ a j)
  | 1 => .long (gl σ a j)
  | _ => va_rf ((gr σ a j).map (adr E))
def flds (E : vEnv) (σ : vMem) (a : Nat) : List Nat → Nat → List Value
  | [], _ => []
  | t :: ts, j => fv E σ a j t :: flds E σ a ts (j + 1)
def arrc (E : vEnv) (σ : vMem) (a : Nat) : vp_A := (len σ a, if knd σ a = 106 then .inr (.inl (gl σ a)) else if 110 ≤ knd σ a then .inr (.inr (.inr (.inr (fun j => (gr σ a j).map (adr E))))) else .inl (gi σ a))
def ent (E : vEnv) (dA : Nat → ClassId) (σ : vMem) (a : Nat) : va_E := if knd σ a < 100 then .inr (knd σ a, flds E σ a (vF (knd σ a)) 0) else .inl (dA (knd σ a), arrc E σ a)
def wl (E : vEnv) (dA : Nat → ClassId) (σ : vMem) : va_W := (List.range (mn σ)).map (fun a => (E.1 + a, ent E dA σ a))
def vRel (E : vEnv) (D : va_G) (dA : Nat → ClassId) (σ : vMem) (H : Heap) : Prop := H.size = E.1 + mn σ ∧ mn σ ≤ SB ∧ (∀ a, mn σ ≤ a → knd σ a = 0) ∧ ∀ a, a < mn σ → va_at D vcl (E.1 + a, ent E dA σ a) H
abbrev vRes : Type := (Option Value × vMem) ⊕ (Nat × vMem)
def rmm : vRes → vMem
  | .inl p => p.2
  | .inr p => p.2
abbrev vXa : Type := Program × Launch × Env × Room × State × MethodId × Array Value × List Frame × Method × Code
abbrev vX : Type := vXa × vEnv × va_G × (Nat → ClassId) × Nat × Nat × (vRes → State → Prop)
abbrev vX.p (X : vX) : Program := X.1.1
abbrev vX.l (X : vX) : Launch := X.1.2.1
abbrev vX.e (X : vX) : Env := X.1.2.2.1
abbrev vX.R (X : vX) : Room := X.1.2.2.2.1
abbrev vX.s (X : vX) : State := X.1.2.2.2.2.1
abbrev vX.m (X : vX) : MethodId := X.1.2.2.2.2.2.1
abbrev vX.args (X : vX) : Array Value := X.1.2.2.2.2.2.2.1
abbrev vX.below (X : vX) : List Frame := X.1.2.2.2.2.2.2.2.1
abbrev vX.meth (X : vX) : Method := X.1.2.2.2.2.2.2.2.2.1
abbrev vX.c (X : vX) : Code := X.1.2.2.2.2.2.2.2.2.2
abbrev vX.E (X : vX) : vEnv := X.2.1
abbrev vX.D (X : vX) : va_G := X.2.2.1
abbrev vX.dA (X : vX) : Nat → ClassId := X.2.2.2.1
abbrev vX.n0 (X : vX) : Nat := X.2.2.2.2.1
abbrev vX.s0 (X : vX) : Nat := X.2.2.2.2.2.1
abbrev vX.Q (X : vX) : vRes → State → Prop := X.2.2.2.2.2.2
/-- locals by place; what isn't known there isn't read -/
def vpr : Nat → List (Option Value) → List (Nat × Value)
  | _, [] => []
  | i, none :: r => vpr (i + 1) r
  | i, some v :: r => (i, v) :: vpr (i + 1) r
def vls (E : vEnv) (ls : List (Option Value)) : List (Nat × Value) := (vpr 0 ls).map (fun q => (q.1, rv E q.2))
def vW (X : vX) (Q : State → Prop) (σ : vMem) (pc : Nat) (ls : List (Option Value)) (st : List Value) : Prop :=
  ∀ (H : Heap) (locs : List Loc) (L : Array Slot), vRel X.E X.D X.dA σ H → va_S (vA X.E) X.s.heap H locs → lv_has L X.c.maxLocals (vls X.E ls) →
    W X.p X.l X.e X.R X.s X.m X.args X.below X.meth X.c H locs (mn σ - X.n0) (mz σ - X.s0) Q (F0 X.m pc L (st.map (rv X.E)))
/-- from this point on a machine of the kind P computes the term t -/
def V {α : Type} (P : vX → Prop) (emb : α → vRes) (σ : vMem) (pc : Nat) (ls : List (Option Value)) (st : List Value) (t : Option α) : Prop :=
  ∀ r, t = some r → mn σ ≤ mn (rmm (emb r)) ∧ mz σ ≤ mz (rmm (emb r)) ∧ ∀ X, P X → (X.n0 ≤ mn σ → X.s0 ≤ mz σ → mn (rmm (emb r)) - X.n0 ≤ X.R.cells → mz (rmm (emb r)) - X.s0 ≤ X.R.slots → vW X (X.Q (emb r)) σ pc ls st)
/-- the tables as the walk's start knows them -/
def vKn (E : vEnv) (D : va_G) (dA : Nat → ClassId) (U : State) : Prop := va_K D vcl (vtys dA) U ∧ (∀ w ∈ vNest, va_Nw w U) ∧ vOv U ∧ vEv E U U.heap
/-- what holds all through a walk of the method with code cc -/
def vCx (X : vX) (cc : ByteArray) (nL : Nat) (own : String) (ret : Option FieldType) (d : Nat) : Prop :=
  X.p.tables.exec = Jvm.exec ∧ X.c.code = cc ∧ X.c.maxLocals = nL ∧ X.s.vm.findClass own = some X.m.cls ∧ (∀ w ∈ lw_all, w.before X.args X.s = true) ∧ X.meth.sig.returnType = ret ∧ X.meth.locks = false ∧ vKn X.E X.D X.dA X.s ∧ X.s.heap.size = X.E.1 + X.n0 ∧ d + 1 ≤ X.R.frames ∧ 64 * (d + 1) ≤ X.R.locals
def vPx (P : vX → Prop) (cc : ByteArray) (nL : Nat) (own : String) (ret : Option FieldType) (d : Nat) : Prop := ∀ X, P X → vCx X cc nL own ret d
section VCX
variable {X : vX} {cc : ByteArray} {nL : Nat} {own : String} {ret : Option FieldType} {d : Nat}
theorem vCx.exec (h : vCx X cc nL own ret d) : X.p.tables.exec = Jvm.exec := h.1
theorem vCx.code (h : vCx X cc nL own ret d) : X.c.code = cc := h.2.1
theorem vCx.ml (h : vCx X cc nL own ret d) : X.c.maxLocals = nL := h.2.2.1
theorem vCx.hown (h : vCx X cc nL own ret d) : X.s.vm.findClass own = some X.m.cls := h.2.2.2.1
theorem vCx.ts (h : vCx X cc nL own ret d) : ∀ w ∈ lw_all, w.before X.args X.s = true := h.2.2.2.2.1
theorem vCx.hret (h : vCx X cc nL own ret d) : X.meth.sig.returnType = ret := h.2.2.2.2.2.1
theorem vCx.lock (h : vCx X cc nL own ret d) : X.meth.locks = false := h.2.2.2.2.2.2.1
theorem vCx.kn (h : vCx X cc nL own ret d) : vKn X.E X.D X.dA X.s := h.2.2.2.2.2.2.2.1
theorem vCx.hs (h : vCx X cc nL own ret d) : X.s.heap.size = X.E.1 + X.n0 := h.2.2.2.2.2.2.2.2.1
theorem vCx.fr (h : vCx X cc nL own ret d) : d + 1 ≤ X.R.frames := h.2.2.2.2.2.2.2.2.2.1
theorem vCx.lo (h : vCx X cc nL own ret d) : 64 * (d + 1) ≤ X.R.locals := h.2.2.2.2.2.2.2.2.2.2
theorem vCx.fix (h : vCx X cc nL own ret d) : CallFix X.p X.m X.c cc nL X.s X.args lw_all own := ⟨h.1, h.2.1, h.2.2.1, h.2.2.2.1, h.2.2.2.2.1⟩
end VCX
/-! rows of one instruction that touch stack and locals alone -/
theorem vpr_mem : ∀ (ls : List (Option Value)) (b i : Nat) (v : Value), ls[i]? = some (some v) → (b + i, v) ∈ vpr b ls
  | [], _, _, _, h => by simp at h
  | none :: r, b, 0, v, h => by simp at h
  | none :: r, b, i + 1, v, h => by
    have := vpr_mem r (b + 1) i v (by simpa using h)
    rw [show b + (i + 1) = b + 1 + i by omega]
    exact this
  | some w :: r, b, 0, v, h => by
    simp at h
    subst h
    exact List.mem_cons_self
  | some w :: r, b, i + 1, v, h => by
    have := vpr_mem r (b + 1) i v (by simpa using h)
    rw [show b + (i + 1) = b + 1 + i by omega]
    exact List.mem_cons_of_mem _ this
theorem vpr_of_mem : ∀ (ls : List (Option Value)) (b : Nat) (q : Nat × Value), q ∈ vpr b ls → ∃ i, q.1 = b + i ∧ ls[i]? = some (some q.2)
  | [], _, _, h => by cases h
  | none :: r, b, q, h => by
    obtain ⟨i, h1, h2⟩ := vpr_of_mem r (b + 1) q h
    exact ⟨i + 1, by omega, by simpa using h2⟩
  | some w :: r, b, q, h => by
    rcases List.mem_cons.mp h with h | h
    · subst h
      exact ⟨0, rfl, rfl⟩
    · obtain ⟨i, h1, h2⟩ := vpr_of_mem r (b + 1) q h
      exact ⟨i + 1, by omega, by simpa using h2⟩
theorem rv_cat (E : vEnv) (v : Value) : (rv E v).category = v.category := by cases v <;> rfl
theorem vls_at {E : vEnv} {L : Array Slot} {n : Nat} {ls : List (Option Value)} (h : lv_has L n (vls E ls)) {i : Nat} {v : Value} (hi : ls[i]? = some (some v)) : L[i]? = some (.val (rv E v)) := by
  have h1 := vpr_mem ls 0 i v hi
  rw [Nat.zero_add] at h1
  exact h.2.2 (i, rv E v) (List.mem_map.mpr ⟨(i, v), h1, rfl⟩)
/-- fewer known locals -/
def vle (ls ls' : List (Option Value)) : Prop := ∀ (i : Nat) (v : Value), ls'[i]? = some (some v) → ls[i]? = some (some v)
theorem vls_le {E : vEnv} {L : Array Slot} {n : Nat} {ls ls' : List (Option Value)} (h : lv_has L n (vls E ls)) (hle : vle ls ls') : lv_has L n (vls E ls') := by
  refine ⟨h.1, h.2.1, fun q hq => ?_⟩
  obtain ⟨q0, h1, rfl⟩ := List.mem_map.mp hq
  obtain ⟨i, h2, h3⟩ := vpr_of_mem ls' 0 q0 h1
  rw [Nat.zero_add] at h2
  subst h2
  exact vls_at h (hle _ _ h3)
/-- the locals at these places are forgotten -/
def vclr : List (Option Value) → List Nat → List (Option Value)
  | ls, [] => ls
  | ls, i :: is => vclr (ls.set i none) is
theorem vle_clr : ∀ (is : List Nat) (ls : List (Option Value)), vle ls (vclr ls is)
  | [], ls => fun _ _ h => h
  | i :: is, ls => fun j v h => by
    have h1 := vle_clr is (ls.set i none) j v h
    rw [List.getElem?_set] at h1
    by_cases hij : i = j
    · rw [if_pos hij] at h1
      by_cases hl : i < ls.length
      · rw [if_pos hl] at h1; cases h1
      · rw [if_neg hl] at h1; cases h1
    · rw [if_neg hij] at h1
      exact h1
/-- a store at i: the place ahead isn't a long -/
def vok1 (ls : List (Option Value)) : Nat → Bool
  | 0 => true
  | j + 1 => match ls[j]? with
    | some (some v) => v.category == 1
    | _ => true
theorem vls_store1 {E : vEnv} {n i : Nat} {ls : List (Option Value)} {v : Value} (hok : vok1 ls i = true) (q : Nat × Value) (hq : q ∈ vls E (ls.set i (some v))) : q ∈ (i, rv E v) :: (vls E ls).filter (fun q => !(q.1 == i) && !(q.1 + 1 == i && q.2.category == 2)) := by
  obtain ⟨q0, h1, rfl⟩ := List.mem_map.mp hq
  obtain ⟨j, h2, h3⟩ := vpr_of_mem _ 0 q0 h1
  rw [Nat.zero_add] at h2
  obtain ⟨qi, qv⟩ := q0
  simp only at h2 h3
  subst h2
  rw [List.getElem?_set] at h3
  by_cases hij : i = qi
  · subst hij
    rw [if_pos rfl] at h3
    by_cases hl : i < ls.length
    · rw [if_pos hl] at h3
      cases h3
      exact List.mem_cons_self
    · rw [if_neg hl] at h3; cases h3
  · rw [if_neg hij] at h3
    refine List.mem_cons_of_mem _ (List.mem_filter.mpr ⟨List.mem_map.mpr ⟨(qi, qv), by have := vpr_mem ls 0 qi qv h3; rwa [Nat.zero_add] at this, rfl⟩, ?_⟩)
    simp only [Bool.and_eq_true, Bool.not_eq_true', beq_eq_false_iff_ne, ne_eq, Bool.and_eq_false_iff]
    refine ⟨fun h => hij h.symm, ?_⟩
    by_cases h9 : qi + 1 = i
    · right
      subst h9
      simp only [vok1, h3] at hok
      rw [rv_cat]
      intro h2
      rw [h2] at hok
      cases hok
    · left
      exact h9
theorem vls_store2 {E : vEnv} {n i : Nat} {ls : List (Option Value)} {v : Value} (hok : vok1 ls i = true) (q : Nat × Value) (hq : q ∈ vls E ((ls.set i (some v)).set (i + 1) none)) : q ∈ (i, rv E v) :: (vls E ls).filter (fun q => !(q.1 == i) && (!(q.1 == i + 1) && !(q.1 + 1 == i && q.2.category == 2))) := by
  obtain ⟨q0, h1, rfl⟩ := List.mem_map.mp hq
  obtain ⟨j, h2, h3⟩ := vpr_of_mem _ 0 q0 h1
  rw [Nat.zero_add] at h2
  obtain ⟨qi, qv⟩ := q0
  simp only at h2 h3
  subst h2
  rw [List.getElem?_set] at h3
  by_cases hij2 : i + 1 = qi
  · rw [if_pos hij2] at h3
    by_cases hl : i + 1 < (ls.set i (some v)).length
    · rw [if_pos hl] at h3; cases h3
    · rw [if_neg hl] at h3; cases h3
  · rw [if_neg hij2] at h3
    have h4 : (qi, qv) ∈ vpr 0 (ls.set i (some v)) := by have := vpr_mem (ls.set i (some v)) 0 qi qv h3; rwa [Nat.zero_add] at this
    have h5 := vls_store1 (E := E) (n := n) hok (qi, rv E qv) (List.mem_map.mpr ⟨(qi, qv), h4, rfl⟩)
    rcases List.mem_cons.mp h5 with h6 | h6
    · exact List.mem_cons.mpr (Or.inl h6)
    · obtain ⟨h7, h8⟩ := List.mem_filter.mp h6
      refine List.mem_cons_of_mem _ (List.mem_filter.mpr ⟨h7, ?_⟩)
      simp only [Bool.and_eq_true, Bool.not_eq_true', beq_eq_false_iff_ne, ne_eq] at h8 ⊢
      exact ⟨h8.1, fun h => hij2 h.symm, h8.2⟩
theorem lv_mem {ls : Array Slot} {nL : Nat} {l l' : List (Nat × Value)} (h : lv_has ls nL l) (hl : ∀ q ∈ l', q ∈ l) : lv_has ls nL l' := ⟨h.1, h.2.1, fun q hq => h.2.2 q (hl q hq)⟩
