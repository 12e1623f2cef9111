set_option maxRecDepth 100000
section Z6
variable {p : Program} {l : Launch} {e : Env} {R : Room} {s : State} {m : MethodId} {args : Array Value} {below : List Frame} {meth : Method} {c : Code} {H : Heap} {locs : List Loc} {cells slots : Nat} {Q : State → Prop}
variable {cc : ByteArray} {own : String} {nL pc : Nat} {ret : Option FieldType} {G : zG} {rest : List Value} {ls : Array Slot} {ws : va_W} {a b : Nat} {A : Nat → Prop}
theorem zn_ne (C : zC p s m args meth c cc own nL ret G) (ha : a < 2 ^ 31) (hb : b < 2 ^ 31) {off : Int} {tgt : Nat} (hdg : decode cc pc = .ok (.if_icmp .ne off, 3)) (ht : (pc : Int) + off = (tgt : Int))
    (kt : ¬ a = b → W p l e R s m args below meth c H locs cells slots Q (F0 m tgt ls rest)) (kf : a = b → W p l e R s m args below meth c H locs cells slots Q (F0 m (pc + 3) ls rest)) : W p l e R s m args below meth c H locs cells slots Q (F0 m pc ls (.int (nI b) :: .int (nI a) :: rest)) :=
  lv_icmp_ne C.1 C.2.1 hdg ht (fun h => kt (fun q => h ((nI_eq ha hb).mpr q))) (fun h => kf ((nI_eq ha hb).mp h))
end Z6
theorem zShf_s {σ : zSt} {k : Nat} : zup (zShf σ k) 21 k (σ 21 (k + 1)) = zShf σ (k + 1) := by
  funext w j
  by_cases hw : w = 21
  · subst hw
    by_cases hj : j = k
    · subst hj
      simp [zup, upd, zShf]
    · simp only [zup, if_true, upd, hj, if_false, zShf]
      by_cases h1 : j < k
      · rw [if_pos h1, if_pos (by omega)]
      · rw [if_neg h1, if_neg (by omega)]
  · simp [zup, hw, zShf]
theorem zShf_0 {σ : zSt} : zShf σ 0 = σ := by
  funext w j
  by_cases hw : w = 21
  · subst hw; simp [zShf]
  · simp [zShf, hw]
theorem zShf_k {σ : zSt} {n w : Nat} (h : w ≠ 21) : zShf σ n w = σ w := by simp [zShf, h]
theorem zShf_hi {σ : zSt} {n j : Nat} (h : n ≤ j) : zShf σ n 21 j = σ 21 j := by
  simp only [zShf, if_true]
  rw [if_neg (by omega)]
