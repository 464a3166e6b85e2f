/-! WHERE MANY CELLS COME BACK: the world behind a call, in one pass -/
def fx_lk : Nat → List Nat → va_W → Option (Nat × va_E)
  | _, [], _ => none
  | _, _ :: _, [] => none
  | k, i :: is, c :: v => cond (Nat.beq k i) (some c) (fx_lk k is v)
def fx_pl : Nat → List Nat → va_W → va_W → va_W
  | _, _, _, [] => []
  | k, is, v, c :: ws => (fx_lk k is v).getD c :: fx_pl (k + 1) is v ws
theorem fx_lk_no : ∀ (is : List Nat) (v : va_W) (k : Nat), k ∉ is → fx_lk k is v = none
  | [], _, _, _ => rfl
  | _ :: _, [], _, _ => rfl
  | i :: is, c :: v, k, h => by
    have h1 : Nat.beq k i = false := by
      cases hb : Nat.beq k i
      · rfl
      · exact absurd (Nat.eq_of_beq_eq_true hb) (fun e => h (by rw [e]; exact List.mem_cons_self))
    simp only [fx_lk, h1, cond_false]
    exact fx_lk_no is v k (fun q => h (List.mem_cons_of_mem _ q))
theorem fx_pl_skip : ∀ (ws : va_W) (k i : Nat) (c : Nat × va_E) (is : List Nat) (v : va_W), i < k → fx_pl k (i :: is) (c :: v) ws = fx_pl k is v ws
  | [], _, _, _, _, _, _ => rfl
  | a :: ws, k, i, c, is, v, h => by
    have h1 : Nat.beq k i = false := by
      cases hb : Nat.beq k i
      · rfl
      · exact absurd (Nat.eq_of_beq_eq_true hb) (by omega)
    have h2 : fx_lk k (i :: is) (c :: v) = fx_lk k is v := by simp only [fx_lk, h1, cond_false]
    simp only [fx_pl]
    rw [h2, fx_pl_skip ws (k + 1) i c is v (by omega)]
theorem fx_pl_set : ∀ (ws : va_W) (k j : Nat) (c : Nat × va_E) (is : List Nat) (v : va_W), k + j ∉ is → fx_pl k is v (ws.set j c) = fx_pl k ((k + j) :: is) (c :: v) ws
  | [], _, _, _, _, _, _ => rfl
  | a :: ws, k, 0, c, is, v, h => by
    have h0 : fx_lk k ((k + 0) :: is) (c :: v) = some c := by
      have : Nat.beq k (k + 0) = true := Nat.beq_refl k
      simp only [fx_lk, this, cond_true]
    show (fx_lk k is v).getD c :: fx_pl (k + 1) is v ws = (fx_lk k ((k + 0) :: is) (c :: v)).getD a :: fx_pl (k + 1) ((k + 0) :: is) (c :: v) ws
    rw [h0, fx_lk_no is v k h, fx_pl_skip ws (k + 1) (k + 0) c is v (by omega)]
    rfl
  | a :: ws, k, j + 1, c, is, v, h => by
    have h1 : Nat.beq k (k + (j + 1)) = false := by
      cases hb : Nat.beq k (k + (j + 1))
      · rfl
      · exact absurd (Nat.eq_of_beq_eq_true hb) (by omega)
    have h2 : fx_lk k ((k + (j + 1)) :: is) (c :: v) = fx_lk k is v := by simp only [fx_lk, h1, cond_false]
    have e : k + (j + 1) = (k + 1) + j := by omega
    show (fx_lk k is v).getD a :: fx_pl (k + 1) is v (ws.set j c) = (fx_lk k ((k + (j + 1)) :: is) (c :: v)).getD a :: fx_pl (k + 1) ((k + (j + 1)) :: is) (c :: v) ws
    rw [h2, fx_pl_set ws (k + 1) j c is v (by rw [← e]; exact h), e]
theorem fx_put_pl : ∀ (is : List Nat) (ws v : va_W), va_nd is = true → Nat.ble is.length v.length = true → fx_put ws is v = fx_pl 0 is v ws ++ v.drop is.length
  | [], ws, v, _, _ => by
    have e : ∀ (ws : va_W) (k : Nat), fx_pl k [] v ws = ws := by
      intro ws
      induction ws with
      | nil => intro k; rfl
      | cons a ws ih =>
        intro k
        have h2 : fx_lk k [] v = none := by simp only [fx_lk]
        simp only [fx_pl]
        rw [h2, ih]
        rfl
    rw [e]; simp [fx_put]
  | _ :: _, _, [], _, h => by simp at h
  | i :: is, ws, c :: v, hn, hl => by
    have hn2 : va_nd is = true ∧ i ∉ is := by
      simp only [va_nd, Bool.and_eq_true, Bool.not_eq_true'] at hn
      refine ⟨?_, ?_⟩
      · first | exact hn.2 | exact hn.1
      · intro hm
        first | (have := hn.1; simp [hm] at this; done) | (have := hn.2; simp [hm] at this)
    show fx_put (ws.set i c) is v = _
    rw [fx_put_pl is (ws.set i c) v hn2.1 (by simpa using hl), fx_pl_set ws 0 i c is v (by rw [Nat.zero_add]; exact hn2.2), Nat.zero_add]
    rfl
theorem fx_pl_app : ∀ (LW PL : va_W) (k : Nat) (is : List Nat) (v : va_W), (∀ i ∈ is, i < k + LW.length) → fx_pl k is v (LW ++ PL) = fx_pl k is v LW ++ PL
  | [], PL, k, is, v, h => by
    have e : ∀ (PL : va_W) (k : Nat), (∀ i ∈ is, i < k) → fx_pl k is v PL = PL := by
      intro PL
      induction PL with
      | nil => intro k _; rfl
      | cons a ws ih =>
        intro k hk
        have h2 : fx_lk k is v = none := fx_lk_no is v k (fun q => absurd (hk k q) (by omega))
        simp only [fx_pl]
        rw [h2, ih (k + 1) (fun i hi => by have := hk i hi; omega)]
        rfl
    show fx_pl k is v PL = [] ++ PL
    rw [e PL k (fun i hi => by have := h i hi; simpa using this)]
    rfl
  | a :: LW, PL, k, is, v, h => by
    show (fx_lk k is v).getD a :: fx_pl (k + 1) is v (LW ++ PL) = (fx_lk k is v).getD a :: (fx_pl (k + 1) is v LW ++ PL)
    rw [fx_pl_app LW PL (k + 1) is v (fun i hi => by have := h i hi; simp at this; omega)]
theorem fx_put_plT {LW PL : va_W} {is : List Nat} {v : va_W} (hn : va_nd is = true) (hlt : is.all (fun i => Nat.blt i LW.length) = true) (hl : Nat.ble is.length v.length = true) : fx_put (LW ++ PL) is v = fx_pl 0 is v LW ++ (PL ++ v.drop is.length) := by
  rw [fx_put_pl is (LW ++ PL) v hn hl, fx_pl_app LW PL 0 is v (fun i hi => by
    have := List.all_eq_true.mp hlt i hi
    rw [Nat.blt_eq] at this
    omega), List.append_assoc]
theorem fx_Ppl {E : fx_En} {H : Heap} {ws v : va_W} {is : List Nat} (h : va_P E.1 clA (fx_put ws is v) H) (hn : va_nd is = true) (hl : Nat.ble is.length v.length = true) {wr : va_W} (hw : fx_pl 0 is v ws ++ v.drop is.length = wr) : va_P E.1 clA wr H := by
  rw [fx_put_pl is ws v hn hl, hw] at h; exact h
theorem fx_Dpl {A : Nat → Prop} {ws v : va_W} {is : List Nat} (h : va_D A (fx_put ws is v)) (hn : va_nd is = true) (hl : Nat.ble is.length v.length = true) {wr : va_W} (hw : fx_pl 0 is v ws ++ v.drop is.length = wr) : va_D A wr := by
  rw [fx_put_pl is ws v hn hl, hw] at h; exact h
theorem fx_PplT {E : fx_En} {H : Heap} {LW PL v : va_W} {is : List Nat} (h : va_P E.1 clA (fx_put (LW ++ PL) is v) H) (hn : va_nd is = true) (hlt : is.all (fun i => Nat.blt i LW.length) = true) (hl : Nat.ble is.length v.length = true) {wr : va_W} (hw : fx_pl 0 is v LW = wr) : va_P E.1 clA (wr ++ (PL ++ v.drop is.length)) H := by
  rw [fx_put_plT hn hlt hl, hw] at h; exact h
theorem fx_DplT {A : Nat → Prop} {LW PL v : va_W} {is : List Nat} (h : va_D A (fx_put (LW ++ PL) is v)) (hn : va_nd is = true) (hlt : is.all (fun i => Nat.blt i LW.length) = true) (hl : Nat.ble is.length v.length = true) {wr : va_W} (hw : fx_pl 0 is v LW = wr) : va_D A (wr ++ (PL ++ v.drop is.length)) := by
  rw [fx_put_plT hn hlt hl, hw] at h; exact h
