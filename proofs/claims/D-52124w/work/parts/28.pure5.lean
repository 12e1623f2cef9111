/-! bits counted, columns never reached -/
def zUsr (x : Int32) (n : Nat) : Int32 := (x.toUInt32 >>> ((nI n).toUInt32 &&& Int32.toUInt32 31)).toInt32
def zBa (x : Int32) : Int32 := x - (zUsr x 1 &&& 1431655765)
def zBb (x : Int32) : Int32 := (x &&& 858993459) + (zUsr x 2 &&& 858993459)
def zBc (x : Int32) : Int32 := (x + zUsr x 4) &&& 252645135
def zBd (x : Int32) : Int32 := x + zUsr x 8
def zBe (x : Int32) : Int32 := x + zUsr x 16
def zBits (x : Int32) : Int32 := zBe (zBd (zBc (zBb (zBa x)))) &&& nI 63
def zRc (K : zKt) (σ : zSt) (i : Nat) : Nat → Int32
  | 0 => nI 0
  | k + 1 => ((zRc K σ i k ||| (nI 1 <<< (nI (zEnd K σ i k (-1)) &&& 31))) ||| (nI 1 <<< (nI (zEnd K σ i k (nI 0)) &&& 31))) ||| (nI 1 <<< (nI (zEnd K σ i k (nI 1)) &&& 31))
def zDead (K : zKt) (σ : zSt) (i : Nat) : Int32 := nI (zWd σ i) - zBits (zRc K σ i (zWd σ i))
def oDead (K : zKt) (σ : zSt) (mv : Int32) : zO := if zMac K mv then (if σ 0 mv.toNatClampNeg = 0 then (nI 0, zDead K σ mv.toNatClampNeg, K, σ) else oF K σ 2) else oF K σ 1
abbrev oDig (K : zKt) (σ : zSt) : zO := (nI 0, nI 0, K, σ)
section Z9
variable {p : Program} {l : Launch} {e : Env} {R : Room} {s : State} {m : MethodId} {args : Array Value} {below : List Frame} {meth : Method} {c : Code} {H : Heap} {locs : List Loc} {cells slots : Nat}
variable {cc : ByteArray} {own : String} {nL pc : Nat} {G : zG} {P1 : Heap → Prop} {A0 : Nat → Prop} {ls : Array Slot}
theorem zw_lretE {x z : Int64} (C : zC p s m args meth c cc own nL (some .long) G) (hz : x = z) (hP : P1 H) (hS : va_S A0 s.heap H locs) (hdg : decode cc pc = .ok (.lreturn, 1)) : W p l e R s m args below meth c H locs cells slots (MQ below (zRW (some (.long z)) P1 A0) args s cells slots A0) (F0 m pc ls [.long x]) := by
  subst hz
  exact W.lret C.1 C.2.1 C.2.2.2.2.2.1 (fun t ht _ => ⟨rfl, by rw [ht]; exact hP, by rw [ht]; exact ⟨hS.1, hS.2.1⟩⟩) hS.2.2 hdg (hlocks := C.2.2.2.2.2.2.1)
theorem zw_dretE {x z : UInt64} (C : zC p s m args meth c cc own nL (some .double) G) (hz : x = z) (hP : P1 H) (hS : va_S A0 s.heap H locs) (hdg : decode cc pc = .ok (.dreturn, 1)) : W p l e R s m args below meth c H locs cells slots (MQ below (zRW (some (.double z)) P1 A0) args s cells slots A0) (F0 m pc ls [.double x]) := by
  subst hz
  exact W.dret C.1 C.2.1 C.2.2.2.2.2.1 (fun t ht _ => ⟨rfl, by rw [ht]; exact hP, by rw [ht]; exact ⟨hS.1, hS.2.1⟩⟩) hS.2.2 hdg (hlocks := C.2.2.2.2.2.2.1)
end Z9
