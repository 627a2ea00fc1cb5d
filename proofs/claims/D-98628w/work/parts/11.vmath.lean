/-! ROWS: Math of ints and longs (the machine answers these itself) -/
set_option maxRecDepth 100000
def imax (x y : Int32) : Int32 := if x < y then y else x
def imin (x y : Int32) : Int32 := if y < x then y else x
def iabs (x : Int32) : Int32 := if 0 ≤ x then x else 0 - x
def lmin (x y : Int64) : Int64 := if y < x then y else x
section VMATH
variable {α : Type} {P : vX → Prop} {emb : α → vRes} {cc : ByteArray} {nL : Nat} {own : String} {ret : Option FieldType} {d : Nat} {σ : vMem} {pc : Nat} {ls : List (Option Value)} {rest : List Value} {t : Option α}
theorem V_mmax {idx : Nat} {x y : Int32} (hC : vPx P cc nL own ret d) (hdg : decode cc pc = .ok (.invokestatic idx, 3)) (q1 : Cond.methodLink own idx Lib.Math.max.name ∈ lw_all) (q2 : Cond.static Lib.Math.max.name ∈ lw_all) (q3 : Cond.initialized "java/lang/Math" ∈ lw_all) (q4 : Cond.code Lib.Math.max.name Lib.Math.max.code 2 (some .int) ∈ lw_all) (hroom : (rest.map fun v => v.category).sum ≤ 8) (kk : V P emb σ (pc + 3) ls (.int (imax x y) :: rest) t) : V P emb σ pc ls (.int y :: .int x :: rest) t := by
  intro r hr
  obtain ⟨h1, h2, h3⟩ := kk r hr
  refine ⟨h1, h2, fun X hX g1 g2 g3 g4 H locs L hR hS hL => ?_⟩
  have hlo := (hC X hX).lo
  have hfr := (hC X hX).fr
  exact va_mmax (hC X hX).exec (hC X hX).code hL.1.symm (hC X hX).hown ((hC X hX).ts _ q1) ((hC X hX).ts _ q2) ((hC X hX).ts _ q3) ((hC X hX).ts _ q4) (by omega) (by rw [vCat]; omega) (by omega) (by omega) hdg (h3 X hX g1 g2 g3 g4 H locs L hR hS hL)
theorem V_mmin {idx : Nat} {x y : Int32} (hC : vPx P cc nL own ret d) (hdg : decode cc pc = .ok (.invokestatic idx, 3)) (q1 : Cond.methodLink own idx Lib.Math.min.name ∈ lw_all) (q2 : Cond.static Lib.Math.min.name ∈ lw_all) (q3 : Cond.initialized "java/lang/Math" ∈ lw_all) (q4 : Cond.code Lib.Math.min.name Lib.Math.min.code 2 (some .int) ∈ lw_all) (hroom : (rest.map fun v => v.category).sum ≤ 8) (kk : V P emb σ (pc + 3) ls (.int (imin x y) :: rest) t) : V P emb σ pc ls (.int y :: .int x :: rest) t := by
  intro r hr
  obtain ⟨h1, h2, h3⟩ := kk r hr
  refine ⟨h1, h2, fun X hX g1 g2 g3 g4 H locs L hR hS hL => ?_⟩
  have hlo := (hC X hX).lo
  have hfr := (hC X hX).fr
  exact va_mmin (hC X hX).exec (hC X hX).code hL.1.symm (hC X hX).hown ((hC X hX).ts _ q1) ((hC X hX).ts _ q2) ((hC X hX).ts _ q3) ((hC X hX).ts _ q4) (by omega) (by rw [vCat]; omega) (by omega) (by omega) hdg (h3 X hX g1 g2 g3 g4 H locs L hR hS hL)
theorem V_mabs {idx : Nat} {x : Int32} (hC : vPx P cc nL own ret d) (hdg : decode cc pc = .ok (.invokestatic idx, 3)) (q1 : Cond.methodLink own idx Lib.Math.abs.name ∈ lw_all) (q2 : Cond.static Lib.Math.abs.name ∈ lw_all) (q3 : Cond.initialized "java/lang/Math" ∈ lw_all) (q4 : Cond.code Lib.Math.abs.name Lib.Math.abs.code 1 (some .int) ∈ lw_all) (hroom : (rest.map fun v => v.category).sum ≤ 8) (kk : V P emb σ (pc + 3) ls (.int (iabs x) :: rest) t) : V P emb σ pc ls (.int x :: rest) t := by
  intro r hr
  obtain ⟨h1, h2, h3⟩ := kk r hr
  refine ⟨h1, h2, fun X hX g1 g2 g3 g4 H locs L hR hS hL => ?_⟩
  have hlo := (hC X hX).lo
  have hfr := (hC X hX).fr
  exact va_mabs (hC X hX).exec (hC X hX).code hL.1.symm (hC X hX).hown ((hC X hX).ts _ q1) ((hC X hX).ts _ q2) ((hC X hX).ts _ q3) ((hC X hX).ts _ q4) (by omega) (by rw [vCat]; omega) (by omega) (by omega) hdg (h3 X hX g1 g2 g3 g4 H locs L hR hS hL)
theorem V_mminL {idx : Nat} {x y : Int64} (hC : vPx P cc nL own ret d) (hdg : decode cc pc = .ok (.invokestatic idx, 3)) (q1 : Cond.methodLink own idx Lib.MathLoose.min_long.x ∈ lw_all) (q2 : Cond.static Lib.MathLoose.min_long.x ∈ lw_all) (q3 : Cond.initialized "java/lang/Math" ∈ lw_all) (q4 : Cond.code Lib.MathLoose.min_long.x Lib.MathLoose.min_long.code 4 (some .long) ∈ lw_all) (hroom : (rest.map fun v => v.category).sum ≤ 8) (kk : V P emb σ (pc + 3) ls (.long (lmin x y) :: rest) t) : V P emb σ pc ls (.long y :: .long x :: rest) t := by
  intro r hr
  obtain ⟨h1, h2, h3⟩ := kk r hr
  refine ⟨h1, h2, fun X hX g1 g2 g3 g4 H locs L hR hS hL => ?_⟩
  have hlo := (hC X hX).lo
  have hfr := (hC X hX).fr
  exact va_mmin_long (hC X hX).exec (hC X hX).code hL.1.symm (hC X hX).hown ((hC X hX).ts _ q1) ((hC X hX).ts _ q2) ((hC X hX).ts _ q3) ((hC X hX).ts _ q4) (by omega) (by rw [vCat]; omega) (by omega) (by omega) hdg (h3 X hX g1 g2 g3 g4 H locs L hR hS hL)
theorem V_if {c : Prop} [Decidable c] {st : List Value} {t1 t2 : Option α} (h1 : c → V P emb σ pc ls st t1) (h2 : ¬ c → V P emb σ pc ls st t2) : V P emb σ pc ls st (if c then t1 else t2) := by
  by_cases h : c
  · rw [if_pos h]; exact h1 h
  · rw [if_neg h]; exact h2 h
theorem V_tin {dflt lo hi off : Int} {offs : Array Int} {len tgt : Nat} {x : Int32} (k : Int32) {st : List Value} (hC : vPx P cc nL own ret d) (hdg : decode cc pc = .ok (.tableswitch dflt lo hi offs, len)) (hx : x = k) (h1 : ¬ k.toInt < lo) (h2 : ¬ hi < k.toInt) (ho : offs[(k.toInt - lo).toNat]? = some off) (ht : (pc : Int) + off = (tgt : Int)) (kk : V P emb σ tgt ls st t) : V P emb σ pc ls (.int x :: st) t := by
  subst hx
  intro r hr
  obtain ⟨m1, m2, m3⟩ := kk r hr
  exact ⟨m1, m2, fun X hX g1 g2 g3 g4 H locs L hR hS hL => lv_tableIn (hC X hX).exec (hC X hX).code hdg h1 h2 ho ht (m3 X hX g1 g2 g3 g4 H locs L hR hS hL)⟩
theorem V_tout {dflt lo hi : Int} {offs : Array Int} {len tgt : Nat} {x : Int32} {st : List Value} (hC : vPx P cc nL own ret d) (hdg : decode cc pc = .ok (.tableswitch dflt lo hi offs, len)) (h : x.toInt < lo ∨ hi < x.toInt) (ht : (pc : Int) + dflt = (tgt : Int)) (kk : V P emb σ tgt ls st t) : V P emb σ pc ls (.int x :: st) t := by
  intro r hr
  obtain ⟨m1, m2, m3⟩ := kk r hr
  exact ⟨m1, m2, fun X hX g1 g2 g3 g4 H locs L hR hS hL => lv_tableOut (hC X hX).exec (hC X hX).code hdg h ht (m3 X hX g1 g2 g3 g4 H locs L hR hS hL)⟩
theorem V_look {dflt : Int} {ps : Array (Int × Int)} {len : Nat} {x : Int32} {off : Int} {tgt : Nat} {st : List Value} (hC : vPx P cc nL own ret d) (hdg : decode cc pc = .ok (.lookupswitch dflt ps, len)) (hp : (ps.toList.zip (ps.toList.drop 1)).all (fun (a, next) => a.1 < next.1) = true) (ho : Op.lookupswitch.offset ps.toList dflt x.toInt = off) (ht : (pc : Int) + off = (tgt : Int)) (kk : V P emb σ tgt ls st t) : V P emb σ pc ls (.int x :: st) t := by
  intro r hr
  obtain ⟨m1, m2, m3⟩ := kk r hr
  exact ⟨m1, m2, fun X hX g1 g2 g3 g4 H locs L hR hS hL => lv_lookup (hC X hX).exec (hC X hX).code hdg hp ho ht (m3 X hX g1 g2 g3 g4 H locs L hR hS hL)⟩
theorem sw_ne {x k : Int32} {n : Int} (h : ¬ x = k) (hk : k.toInt = n) : x.toInt ≠ n := fun z => h (Int32.toInt_inj.mp (z.trans hk.symm))
end VMATH
