/-! the plain functions that both sides compute: a token played, a turn, a round -/
def zoI : Option Nat → Int32
  | none => -1
  | some b => nI b
theorem zneM1 {n : Nat} (h : n < 2 ^ 31) : ¬ nI n = -1 := by
  intro q
  have a := nI_toInt h
  rw [q] at a
  have : ((-1 : Int32)).toInt = -1 := by decide
  omega
/-- the machine that works with the most tokens, of the first k -/
def zLu (σ : zSt) : Nat → Option Nat
  | 0 => none
  | k + 1 => match zLu σ k with
    | none => if σ 6 k = 0 then some k else none
    | some b => if σ 6 k = 0 then (if σ 4 k + zOnL σ k ≤ σ 4 b + zOnL σ b then some b else some k) else some b
theorem zLu_lt {σ : zSt} : ∀ (k b : Nat), zLu σ k = some b → b < k
  | 0, b, h => by simp [zLu] at h
  | k + 1, b, h => by
    unfold zLu at h
    cases hb : zLu σ k with
    | none =>
      rw [hb] at h
      simp only at h
      split at h
      · cases h; omega
      · cases h
    | some d =>
      have := zLu_lt k d hb
      rw [hb] at h
      simp only at h
      split at h
      · split at h
        · cases h; omega
        · cases h; omega
      · cases h; omega
/-- a machine is among the first k of the row of repairs -/
def zInB (σ : zSt) (v : Int32) : Nat → Bool
  | 0 => false
  | k + 1 => zInB σ v k || decide (σ 21 k = v)
theorem zInB_t {σ : zSt} {v : Int32} : ∀ (q k : Nat), k < q → σ 21 k = v → zInB σ v q = true
  | 0, k, h, _ => by omega
  | q + 1, k, h, e => by
    unfold zInB
    by_cases hk : k = q
    · subst hk; simp [e]
    · rw [zInB_t q k (by omega) e]; rfl
theorem zInB_f {σ : zSt} {v : Int32} {k : Nat} (h : zInB σ v k = false) (e : ¬ σ 21 k = v) : zInB σ v (k + 1) = false := by
  unfold zInB
  simp [h, e]
def zTo (σ : zSt) (u : Nat) (v : Int32) : zSt := zup (zup σ 12 u v) 13 u (nI 0)
def zCal (σ : zSt) (q : Nat) (v : Int32) : zSt := zup (zup σ 21 q v) 22 1 (nI (q + 1))
/-- a place of a pusher's ledge -/
def zPs (st : Int32) (i k : Nat) (x : zSt × Int32) : zSt × Int32 :=
  if x.1 20 (5 * i + k) ≤ st then x
  else if k = 4 then (zup x.1 20 (5 * i + k) (x.1 20 (5 * i + k) - x.1 20 (5 * i + k) / nI 2), x.1 20 (5 * i + k) / nI 2)
  else (zup (zup x.1 20 (5 * i + k) (x.1 20 (5 * i + k) - x.1 20 (5 * i + k) / nI 2)) 20 (5 * i + k + 1) (zup x.1 20 (5 * i + k) (x.1 20 (5 * i + k) - x.1 20 (5 * i + k) / nI 2) 20 (5 * i + k + 1) + x.1 20 (5 * i + k) / nI 2), x.2)
def zPsR (st : Int32) (i : Nat) (x : zSt × Int32) : Nat → zSt × Int32
  | 0 => x
  | k + 1 => zPs st i k (zPsR st i x k)
theorem zPs_k {st : Int32} {i k : Nat} {x : zSt × Int32} {w : Nat} (h : w ≠ 20) : (zPs st i k x).1 w = x.1 w := by
  unfold zPs
  split
  · rfl
  · split
    · exact zup_kf h
    · show zup (zup x.1 20 _ _) 20 _ _ w = x.1 w
      rw [zup_kf h, zup_kf h]
theorem zPsR_k {st : Int32} {i : Nat} {x : zSt × Int32} {w : Nat} (h : w ≠ 20) : ∀ k, (zPsR st i x k).1 w = x.1 w
  | 0 => rfl
  | k + 1 => (zPs_k h).trans (zPsR_k h k)
def zPush (σ : zSt) (i : Nat) : zSt × Int32 := zPsR (σ 3 i) i (zup σ 20 (5 * i) (σ 20 (5 * i) + nI 1), nI 0) 5
theorem zPush_k {σ : zSt} {i w : Nat} (h : w ≠ 20) : (zPush σ i).1 w = σ w := (zPsR_k h 5).trans (zup_kf h)
/-- the pay of a table -/
def zPay (K : zKt) (σ : zSt) (i col : Nat) (tilt : Int32) : Int32 := if zCup K σ i col tilt < σ 4 i + nI 1 then zCup K σ i col tilt else σ 4 i + nI 1
def zTk (K : zKt) (σ : zSt) (i col : Nat) (tilt : Int32) : zSt × Int32 := if σ 0 i = 0 then (zup σ 4 i (σ 4 i + nI 1 - zPay K σ i col tilt), zPay K σ i col tilt) else zPush σ i
def zWr (σ : zSt) (i : Nat) : zSt := zup σ 5 i (if σ 5 i + nI 1 < nI 100 then σ 5 i + nI 1 else nI 100)
def zJm (σ : zSt) (i : Nat) : zSt := if σ 5 i < nI 20 then σ else if σ 5 i - σ 5 i / nI 10 * nI 10 = 0 then zup σ 6 i (nI 1) else σ
def zF1 (σ : zSt) (i : Nat) : zSt := zup σ 7 i (σ 7 i + nI 1)
def zF2 (σ : zSt) (i : Nat) (pay : Int32) : zSt := zup σ 8 i (σ 8 i + pay)
def zF3 (σ : zSt) (u : Nat) (pay : Int32) : zSt := zup σ 10 u (σ 10 u - nI 1 + pay)
def zF4 (σ : zSt) (u : Nat) : zSt := zup σ 14 u (σ 14 u + nI 1)
def zF5 (σ : zSt) (u : Nat) (pay : Int32) : zSt := zup σ 15 u (σ 15 u + pay)
def zFin (σ : zSt) (u i : Nat) (pay : Int32) : zSt := zJm (zWr (zF5 (zF4 (zF3 (zF2 (zF1 σ i) i pay) u pay) u) u pay) i) i
def zPlA (K : zKt) (σ : zSt) (u i col : Nat) (tilt : Int32) : zSt × Int32 := (zFin (zTk K σ i col tilt).1 u i (zTk K σ i col tilt).2, (zTk K σ i col tilt).2)
def zPsh (σ : zSt) (i : Nat) : Prop := σ 0 i = nI 1 ∧ σ 1 i = nI 0 ∧ σ 2 i = nI 0
def zCol (σ : zSt) (i : Nat) : Nat := if σ 0 i = 0 then (σ 22 0).toNatClampNeg % zWd σ i else 0
def zTl (K : zKt) (σ : zSt) (i : Nat) : Int32 := if σ 0 i = 0 then zBest K σ i (zCol σ i) else nI 0
def zLs (σ : zSt) (u : Nat) (pay : Int32) : zSt := zup σ 13 u (if pay = 0 then σ 13 u + nI 1 else nI 0)
def zLv (σ : zSt) (u : Nat) : zSt := if σ 13 u < σ 11 u then σ else zTo σ u (-1)
def zTnP (K : zKt) (σ : zSt) (u i : Nat) : zSt × Int32 := (zLv (zLs (zPlA K σ u i (zCol σ i) (zTl K σ i)).1 u (zPlA K σ u i (zCol σ i) (zTl K σ i)).2) u, (zPlA K σ u i (zCol σ i) (zTl K σ i)).2)
def zTurn (K : zKt) (σ : zSt) (u : Nat) : zSt × Int32 :=
  if σ 12 u = -1 then (if σ 10 u ≤ 0 then (σ, nI 0) else (zTo σ u (zoI (zLu σ (zkM K))), nI 0))
  else if σ 6 (σ 12 u).toNatClampNeg = 0 then (if σ 10 u = 0 then (zTo σ u (-1), nI 0) else zTnP K σ u (σ 12 u).toNatClampNeg) else (zTo σ u (-1), nI 0)
def zTurns (K : zKt) (σ : zSt) : Nat → zSt × Int32
  | 0 => (σ, nI 0)
  | u + 1 => ((zTurn K (zTurns K σ u).1 u).1, (zTurns K σ u).2 + (zTurn K (zTurns K σ u).1 u).2)
def zShf (σ : zSt) (n : Nat) : zSt := fun k => if k = 21 then (fun j => if j < n then σ 21 (j + 1) else σ 21 j) else σ k
def zR1 (K : zKt) (σ : zSt) (i : Nat) : zSt := if σ 22 2 = 0 then zup σ 22 2 (if nI 1 < σ 5 i / nI 10 + nI 1 - zkS K then σ 5 i / nI 10 + nI 1 - zkS K else nI 1) else σ
def zR2 (σ : zSt) : zSt := zup σ 22 2 (σ 22 2 - nI 1)
def zR3 (σ : zSt) (i : Nat) : zSt := zup (zup σ 5 i (nI 0)) 6 i (nI 0)
def zR4 (σ : zSt) : zSt := zShf (zup σ 22 1 (nI ((σ 22 1).toNatClampNeg - 1))) ((σ 22 1).toNatClampNeg - 1)
def zRep (K : zKt) (σ : zSt) : zSt := if σ 22 1 = 0 then σ else if zR2 (zR1 K σ (σ 21 0).toNatClampNeg) 22 2 ≤ 0 then zR4 (zR3 (zR2 (zR1 K σ (σ 21 0).toNatClampNeg)) (σ 21 0).toNatClampNeg) else zR2 (zR1 K σ (σ 21 0).toNatClampNeg)
def zRnd (σ : zSt) : zSt := zup σ 22 0 (σ 22 0 + nI 1)
def zRound (K : zKt) (σ : zSt) : zSt × Int32 := (zRnd (zRep K (zTurns K σ (zkP K)).1), (zTurns K σ (zkP K)).2)
def zRounds (K : zKt) (σ : zSt) : Nat → zSt × Int32
  | 0 => (σ, nI 0)
  | n + 1 => ((zRound K (zRounds K σ n).1).1, (zRounds K σ n).2 + (zRound K (zRounds K σ n).1).2)
