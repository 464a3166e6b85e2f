/-! VOICES: what a kind answers, and the bodies that run -/
abbrev Trc : Type := (Nat → Int32) × Nat
def bg (s : Trc) (b : Int32) : Trc := if s.2 < 30 then (upd s.1 s.2 b, s.2 + 1) else s
def bgL : Trc → List Int32 → Trc
  | s, [] => s
  | s, b :: r => bgL (bg s b) r
theorem bg_le {s : Trc} {b : Int32} (h : s.2 ≤ 30) : (bg s b).2 ≤ 30 := by
  unfold bg
  split
  · rename_i h1; show s.2 + 1 ≤ 30; omega
  · exact h
theorem bgL_le : ∀ (L : List Int32) {s : Trc}, s.2 ≤ 30 → (bgL s L).2 ≤ 30
  | [], _, h => h
  | _ :: r, _, h => bgL_le r (bg_le h)
theorem bgL_app : ∀ (L M : List Int32) (s : Trc), bgL s (L ++ M) = bgL (bgL s L) M
  | [], _, _ => rfl
  | b :: r, M, s => bgL_app r M (bg s b)
theorem trc_le {f : Nat → Int32} {n : Nat} {s : Trc} (h : (f, n) = s) (h1 : s.2 ≤ 30) : n ≤ 30 := by subst h; exact h1
def addsV (kd : Nat) (sp x : Int32) : Int32 := if kd = 1 then x + sp - 9 else if kd = 5 then (x + sp - 9) * 3 else if kd = 6 then 9 else x + sp
def addsB (kd : Nat) : List Int32 := if kd = 1 then [20, 10] else if kd = 5 then [50, 20, 10] else if kd = 6 then [70] else [10]
def comesV (kd own : Nat) (sp m x : Int32) : Int32 := if kd = 2 then 0 - addsV own sp x * 2 else if kd = 4 then 0 - addsV own sp (x + 1) * 2 else if kd = 6 then addsV own sp x * 2 + m else addsV own sp x * 2
def comesB (kd own : Nat) : List Int32 := if kd = 2 then 30 :: 11 :: addsB own else if kd = 4 then 60 :: 30 :: 11 :: addsB own else if kd = 6 then 71 :: 11 :: addsB own else 11 :: addsB own
def givesV (kd own : Nat) (sp m x : Int32) : Int32 := if kd = 3 then comesV own own sp m (x / 2) - m else if kd = 5 then (comesV own own sp m x - m) ^^^ sp else comesV own own sp m x - m
def givesB (kd own : Nat) : List Int32 := if kd = 3 then 40 :: 12 :: comesB own own else if kd = 5 then 51 :: 12 :: comesB own own else 12 :: comesB own own
def partsV (kd own : Nat) (sp m x : Int32) : Int32 := if m - sp = 0 then 0 else if kd = 1 ∨ kd = 5 then x / (m - sp) + comesV own own sp m 1 else x / (m - sp)
def partsB (kd own : Nat) (sp m : Int32) : List Int32 := if kd = 1 ∨ kd = 5 then (if m - sp = 0 then [21, 13] else 21 :: 13 :: comesB own own) else [13]
def abvK (k : Nat) : Nat := if k = 5 then 1 else if k = 4 then 2 else 0
def voV (vo : Int32) (own : Nat) (sp m x : Int32) : Int32 := if vo = 0 then addsV own sp x else if vo = 1 then comesV own own sp m x else if vo = 2 then givesV own own sp m x else partsV own own sp m x
def voB (vo : Int32) (own : Nat) (sp m : Int32) : List Int32 := if vo = 0 then addsB own else if vo = 1 then comesB own own else if vo = 2 then givesB own own else partsB own own sp m
def voP (vo sp m : Int32) : Bool := decide (¬ vo = 0) && (decide (¬ vo = 1) && (decide (¬ vo = 2) && decide (m - sp = 0)))
abbrev R4t : Type := Int32 × (Nat → Int32) × Nat × (Nat → Int32)
def voice_ (sa er tr : Nat → Int32) (tn : Nat) (til vo x : Int32) : R4t :=
  if inB til 0 3 && inB vo 0 3 then
    (if voP vo (nI (nn til)) (sa (32 + 2 * nn til + 1)) then erv 6 else voV vo (nn (sa (32 + 2 * nn til))) (nI (nn til)) (sa (32 + 2 * nn til + 1)) x,
     (bgL (tr, 0) (voB vo (nn (sa (32 + 2 * nn til))) (nI (nn til)) (sa (32 + 2 * nn til + 1)))).1, (bgL (tr, 0) (voB vo (nn (sa (32 + 2 * nn til))) (nI (nn til)) (sa (32 + 2 * nn til + 1)))).2,
     if voP vo (nI (nn til)) (sa (32 + 2 * nn til + 1)) then erI er 6 else er)
  else (erv 1, tr, tn, erI er 1)
theorem trc_1 {f : Nat → Int32} {n : Nat} {s : Trc} (h : (f, n) = s) : f = s.1 ∧ n = s.2 := by subst h; exact ⟨rfl, rfl⟩
theorem kd7 {k : Nat} (h : k ≤ 6) : k = 0 ∨ k = 1 ∨ k = 2 ∨ k = 3 ∨ k = 4 ∨ k = 5 ∨ k = 6 := by omega
