/-! the plain functions that both sides compute -/
def zSum (f : Nat → Int32) : Nat → Int32
  | 0 => nI 0
  | n + 1 => zSum f n + f n
def zOnL (σ : zSt) (i : Nat) : Int32 := zSum (fun k => σ 20 (5 * i + k)) 5
/-- held to the columns -/
def zClI (w : Nat) (x : Int32) : Int32 := if nI 0 < (if x < nI w - nI 1 then x else nI w - nI 1) then (if x < nI w - nI 1 then x else nI w - nI 1) else nI 0
theorem zClI_in {w : Nat} (h0 : 0 < w) (hw : w < 2 ^ 31) (x : Int32) : ∃ c, c < w ∧ zClI w x = nI c := by
  have e : nI w - nI 1 = nI (w - 1) := pk_sub h0
  unfold zClI
  rw [e]
  generalize hz : (if x < nI (w - 1) then x else nI (w - 1)) = z
  have hz2 : z ≤ nI (w - 1) := by
    rw [← hz]
    split
    · next h => exact Int32.le_of_lt h
    · exact Int32.le_refl _
  by_cases h : nI 0 < z
  · rw [if_pos h]
    have h1 : ¬ z < 0 := fun q => by
      have a1 := Int32.lt_iff_toInt_lt.mp h
      have a2 := Int32.lt_iff_toInt_lt.mp q
      rw [nI_toInt (by decide)] at a1
      rw [Int32.toInt_zero] at a2
      omega
    obtain ⟨j, hj, e1⟩ := nI_of h1
    refine ⟨j, ?_, e1⟩
    rw [e1] at hz2
    have := (nI_leI hj (by omega)).mp hz2
    omega
  · rw [if_neg h]
    exact ⟨0, h0, rfl⟩
def zStp (K : zKt) (i w : Nat) (tilt : Int32) (r c : Nat) : Nat := (zClI w (nI c + (if zkN K i r c = 0 then (if (r + c) % 2 = 0 then tilt else nI 0) else zkN K i r c))).toNatClampNeg
def zEndR (K : zKt) (i w : Nat) (tilt : Int32) (col : Nat) : Nat → Nat
  | 0 => col
  | r + 1 => zStp K i w tilt r (zEndR K i w tilt col r)
theorem zStp_in {K : zKt} {i w : Nat} {tilt : Int32} {r c : Nat} (h0 : 0 < w) (hw : w < 2 ^ 31) : zStp K i w tilt r c < w ∧ zClI w (nI c + (if zkN K i r c = 0 then (if (r + c) % 2 = 0 then tilt else nI 0) else zkN K i r c)) = nI (zStp K i w tilt r c) := by
  unfold zStp
  obtain ⟨j, hj, e⟩ := zClI_in h0 hw (nI c + (if zkN K i r c = 0 then (if (r + c) % 2 = 0 then tilt else nI 0) else zkN K i r c))
  rw [e, nI_clamp (by omega)]
  exact ⟨hj, rfl⟩
theorem zEndR_in {K : zKt} {i w : Nat} {tilt : Int32} {col : Nat} (hc : col < w) (hw : w < 2 ^ 31) : ∀ r, zEndR K i w tilt col r < w
  | 0 => hc
  | r + 1 => (zStp_in (by omega) hw).1
def zWd (σ : zSt) (i : Nat) : Nat := (σ 1 i).toNatClampNeg
def zDp (σ : zSt) (i : Nat) : Nat := (σ 2 i).toNatClampNeg
/-- a table's columns and rows are in their bounds -/
def zTab (σ : zSt) (i : Nat) : Prop := σ 0 i = nI 0 ∧ 3 ≤ zWd σ i ∧ zWd σ i ≤ 9 ∧ 2 ≤ zDp σ i ∧ zDp σ i ≤ 12 ∧ σ 1 i = nI (zWd σ i) ∧ σ 2 i = nI (zDp σ i)
def zEnd (K : zKt) (σ : zSt) (i col : Nat) (tilt : Int32) : Nat := zEndR K i (zWd σ i) tilt col (zDp σ i)
def zCup (K : zKt) (σ : zSt) (i col : Nat) (tilt : Int32) : Int32 := zkC K i (zEnd K σ i col tilt)
def zB1 (K : zKt) (σ : zSt) (i col : Nat) (tilt best : Int32) : Int32 := if zCup K σ i col tilt ≤ zCup K σ i col best then best else tilt
def zBest (K : zKt) (σ : zSt) (i col : Nat) : Int32 := zB1 K σ i col (nI 1) (zB1 K σ i col (nI 0) (-1))
theorem zIsIn {v lo hi : Int32} {n : Nat} : True := trivial
