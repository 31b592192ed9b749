/-! ===== plain law: a leg of the system ===== -/
abbrev g00 : GS := (0, 0, 0, 0, fun _ => 0)
abbrev legG (P : Nat → Nat → Int32) (hd wt : Int32) (T n : Nat) : Option GS := legF P hd wt T n 16 0 (fun _ => 0) g00
theorem zero_bits : ∀ p, p < 16 → bitV 0 p = 0 := by decide +kernel
/-- the cells as a leg begins -/
abbrev legI (I : Nat → Int32) (hd wt : Int32) (T : Nat) : Nat → Int32 := upd (upd (upd (upd (upd (upd (upd I 15 hd) 16 wt) 17 0) 18 (nI T)) 19 0) 21 0) 14 0
theorem leg_start {n T : Nat} {hd wt : Int32} {I : Nat → Int32} {F : Nat → Nat → Int32} (hn : I 12 = nI n) : LW n T hd wt 0 (fun _ => 0) g00 (legI I hd wt T, F) :=
  ⟨⟨hn, rfl, rfl, rfl⟩, ⟨rfl, rfl, rfl, fun h => absurd rfl h⟩, fun p hp => (zero_bits p hp).trans (bI_f (fun ⟨i, hi, _⟩ => absurd hi (Nat.not_lt_zero i))).symm, fun i hi => absurd hi (Nat.not_lt_zero i), fun i hi => absurd hi (Nat.not_lt_zero i), Nat.zero_le _, Nat.zero_le _⟩
/-- what a leg answers, and what it leaves -/
def xLegR (P : Nat → Nat → Int32) (n : Nat) (u0 : MS) (hd wt tt : Int32) (r : Int32) (u : MS) : Prop :=
  if ¬ (inR hd 1 3000 ∧ inR wt 1 300 ∧ inR tt 1 20000) then r = -1 ∧ u = u0 else
  ((∀ j, j < 14 ∨ 24 < j ∨ j = 20 → u.1 j = u0.1 j) ∧ ∀ j, j ≠ 13 → j ≠ 20 → u.2 j = u0.2 j) ∧
  match legG P hd wt (cl tt) n with
  | none => r = -6 ∧ u.1 21 = 0 ∧ u.1 17 = tt
  | some g => r = (if g.2.1 = 0 then -9 else g.2.2.1) ∧ u.1 21 = nI g.2.1 ∧ u.1 17 = nI g.1 ∧ g.2.1 ≤ 16 ∧ (¬ g.2.1 = 0 → u.1 24 = g.2.2.2.1 - hd ∧ ∀ i, i < g.2.1 → u.2 20 i = nI (g.2.2.2.2 i))
