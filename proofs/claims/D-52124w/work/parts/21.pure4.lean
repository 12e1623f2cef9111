/-! the plain functions: what is told, what is counted, the digest -/
def zTold (K : zKt) (σ : zSt) (i w : Nat) : Int32 := if w = 7 then zSum (fun u => if σ 12 u = nI i then nI 1 else nI 0) (zkP K) else if w = 8 then σ 7 i else if w = 9 then σ 8 i else if w = 10 then zOnL σ i else σ w i
def zCnt (K : zKt) (σ : zSt) (w : Nat) : Int32 := match w with
  | 0 => σ 22 0
  | 1 => nI (zkM K)
  | 2 => zSum (σ 6) (zkM K)
  | 3 => nI (zkP K)
  | 4 => zSum (fun u => if σ 12 u = -1 then nI 0 else nI 1) (zkP K)
  | 5 => zSum (σ 10) (zkP K)
  | 6 => zSum (σ 4) (zkM K)
  | 7 => zSum (fun i => zOnL σ i) (zkM K)
  | 8 => σ 22 1
  | _ => σ 22 2
def zHs (d : Int64) (f : Nat → Int32) : Nat → Int64
  | 0 => d
  | n + 1 => zHs d f n * 31 + (f n).toInt64
def zHs2 (d : Int64) (f : Nat → Nat → Int32) (w : Nat) : Nat → Int64
  | 0 => d
  | n + 1 => zHs (zHs2 d f w n) (f n) w
/-- a machine's part -/
def zDm (K : zKt) (σ : zSt) (d : Int64) (i : Nat) : Int64 :=
  if σ 0 i = 0 then zHs2 (zHs (zHs d (zTold K σ i) 11) (zkC K i) (zWd σ i)) (zkN K i) (zWd σ i) (zDp σ i)
  else zHs (zHs d (zTold K σ i) 11) (fun k => σ 20 (5 * i + k)) 5
def zDms (K : zKt) (σ : zSt) (d : Int64) : Nat → Int64
  | 0 => d
  | n + 1 => zDm K σ (zDms K σ d n) n
def zDp1 (σ : zSt) (d : Int64) (u : Nat) : Int64 := zHs d (fun w => σ (10 + w) u) 6
def zDps (σ : zSt) (d : Int64) : Nat → Int64
  | 0 => d
  | n + 1 => zDp1 σ (zDps σ d n) n
def zDig (K : zKt) (σ : zSt) : Int64 := zHs (zDps σ (zDms K σ (zHs 631 (zCnt K σ) 10) (zkM K)) (zkP K)) (σ 21) (σ 22 1).toNatClampNeg
