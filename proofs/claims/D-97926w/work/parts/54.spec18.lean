/-! X's DEARER -/
theorem dearS_0 {v : Int32} : dearS v 0 (-1, 0) = dearS v 0 (0, v) := by
  unfold dearS
  rw [if_pos (Or.inl rfl), if_neg]
  · rfl
  · rintro (h | h)
    · exact absurd (show (0 : Int32) = -1 from h) (by decide)
    · exact Int32.lt_irrefl h
theorem dearV_0 {sa : Nat → Int32} {T T1 : Tx} {k e : Nat} {rn : Nat → Nat} (h : Inv sa) : dearV sa T T1 k rn e 0 0 = paysF sa T (fun i => rn i + (seekF sa T T1 k rn e).2.2 i) k := by
  have e1 : upd sa (8 + 0) (nI (nn (sa (8 + 0)) + 0)) = sa := upd_pr h (by omega)
  unfold dearV
  rw [e1]
theorem dearF_x {sa : Nat → Int32} {T T1 : Tx} {k e : Nat} {rn : Nat → Nat} {v : Int32} {r : Int32 × Int32} (hI : Inv sa) (hv : v = paysF sa T (fun i => rn i + (seekF sa T T1 k rn e).2.2 i) k) (hr : r = itr (fun t b => dearB sa T T1 k rn e t b) 8 (0, v)) : r.1 = dearF sa T T1 k rn e := by
  have hp := (hI.pr 0 (by omega)).2
  have h0 : dearB sa T T1 k rn e 0 (-1, 0) = dearB sa T T1 k rn e 0 (0, v) := by
    unfold dearB
    obtain ⟨n, hn⟩ : ∃ n, min 10 (10000 - nn (sa (8 + 0))) = n + 1 := ⟨min 10 (10000 - nn (sa (8 + 0))) - 1, by omega⟩
    rw [hn]
    refine itr_m (f := fun u b => dearS (dearV sa T T1 k rn e 0 u) (10 * 0 + u) b) ?_ n
    show dearS (dearV sa T T1 k rn e 0 0) 0 (-1, 0) = dearS (dearV sa T T1 k rn e 0 0) 0 (0, v)
    rw [dearV_0 hI, ← hv]
    exact dearS_0
  rw [hr]
  unfold dearF
  rw [itr_m (f := fun t b => dearB sa T T1 k rn e t b) h0 7]
theorem dearS_x {v : Int32} {code : Nat} {wb ms : Int32} (h : wb ≠ -1) : (if ms < v then nI code else wb, mx_i ms v) = dearS v code (wb, ms) := by
  unfold dearS mx_i
  by_cases h1 : ms < v
  · rw [if_pos h1, if_pos h1, if_pos (Or.inr h1)]
  · rw [if_neg h1, if_neg h1, if_neg (fun q => q.elim h h1)]
