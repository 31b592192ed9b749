/-! ===== plain law for the system's rows ===== -/
theorem fm_val : ∀ n, n < 24 → (if 0 ≤ (nI n - 8) ^^^ 8 then (nI n - 8) - (nI n - 8) / 8 * 8 else if (nI n - 8) - (nI n - 8) / 8 * 8 = 0 then (nI n - 8) - (nI n - 8) / 8 * 8 else (nI n - 8) - (nI n - 8) / 8 * 8 + 8) = nI (n % 8) := by decide +kernel
theorem fm_dn : ∀ p, p < 8 → ∀ k, k < 9 → nI p + -1 * nI k = nI (p + 8 - k) - 8 := by decide +kernel
theorem fm_up : ∀ p, p < 8 → ∀ k, k < 9 → nI (p + 1 * k) = nI (p + 8 + k) - 8 := by decide +kernel
theorem fm_mi : ∀ p, p < 8 → ∀ k, k < 9 → nI p - nI k = nI (p + 8 - k) - 8 := by decide +kernel
/-- what stepsTo answers -/
abbrev stepsP (h : Nat → Int32) (r : Int32) : Prop := (r = -9 ∧ fstN h 8 = 8) ∨ (fstN h 8 < 8 ∧ r = nI (fstN h 8))
abbrev gR (g : Nat → Int32) (r : Nat) : Nat → Int32 := fun j => g (8 * r + j)
/-- the system's way to a ring's two neighbours -/
theorem belN_val {rm : Nat → Int32} {n : Nat} (h : ∀ r, r < n → rm r = -9 ∨ ∃ a : Nat, a ≤ 2000000 ∧ rm r = nI a) : belN rm n = -9 ∨ ∃ a : Nat, a ≤ 2000000 ∧ belN rm n = nI a := by
  induction n with
  | zero => exact Or.inl rfl
  | succ n ih =>
    unfold belN
    split
    · exact ih (fun r hr => h r (by omega))
    · exact h n (by omega)
theorem abvN_val {rm : Nat → Int32} (h : ∀ r, r < 12 → rm r = -9 ∨ ∃ a : Nat, a ≤ 2000000 ∧ rm r = nI a) {n : Nat} (hn : n ≤ 12) : abvN rm n = -9 ∨ ∃ a : Nat, a ≤ 2000000 ∧ abvN rm n = nI a := by
  induction n with
  | zero => exact Or.inl rfl
  | succ n ih =>
    unfold abvN
    split
    · exact ih (by omega)
    · exact h _ (by omega)
theorem imax_self (x : Int32) : (if x < x then x else x) = x := by
  split <;> rfl
theorem abvN_at {rm : Nat → Int32} {r : Nat} (hr : r < 12) : abvN rm (12 - r) = if rm r = -9 then abvN rm (11 - r) else rm r := by
  rw [show 12 - r = (11 - r) + 1 by omega]
  show (if rm (12 - ((11 - r) + 1)) = -9 then abvN rm (11 - r) else rm (12 - ((11 - r) + 1))) = _
  rw [show 12 - ((11 - r) + 1) = r by omega]
theorem i32_eq_of {x y : Int32} (h1 : ¬ x < y) (h2 : ¬ y < x) : x = y := Int32.le_antisymm (Int32.not_lt.mp h2) (Int32.not_lt.mp h1)
/-- the system's pick is the reference's -/
theorem pick_eq {rm : Nat → Int32} {most : Int32} {r : Nat} (hr : r < 12) (hm : most = 0 ∨ most = 1) {one other v : Int32}
    (h1 : one = if belN rm (r + 1) = -9 then abvN rm (12 - r) else belN rm (r + 1)) (h2 : other = if abvN rm (12 - r) = -9 then belN rm (r + 1) else abvN rm (12 - r))
    (h3 : v = if most = 0 then (if other < one then other else one) else (if one < other then other else one)) : (if v = -9 then 0 else v) = pickV rm most r := by
  have hb : belN rm (r + 1) = if rm r = -9 then belN rm r else rm r := rfl
  rw [hb, abvN_at hr] at h1 h2
  unfold pickV
  by_cases h0 : rm r = -9
  · rw [if_pos h0, if_pos h0] at h1 h2
    rw [if_pos h0]
    generalize belN rm r = x at h1 h2
    generalize abvN rm (11 - r) = y at h1 h2
    by_cases hx : x = -9
    · by_cases hy : y = -9
      · rw [if_pos hx] at h1
        rw [if_pos hy] at h2
        have e : v = -9 := by
          rw [h3, h1, h2, hx, hy]
          rcases hm with q | q <;> rw [q] <;> rfl
        unfold twoV
        rw [if_pos e, if_pos ⟨hx, hy⟩]
      · rw [if_pos hx] at h1
        rw [if_neg hy] at h2
        have e : v = y := by
          rw [h3, h1, h2, imax_self]
          split <;> rfl
        unfold twoV
        rw [e, if_neg hy, if_neg (fun h => hy h.2), if_pos hx]
    · by_cases hy : y = -9
      · rw [if_neg hx] at h1
        rw [if_pos hy] at h2
        have e : v = x := by
          rw [h3, h1, h2, imax_self]
          split <;> rfl
        unfold twoV
        rw [e, if_neg hx, if_neg (fun h => hx h.1), if_neg hx, if_pos hy]
      · rw [if_neg hx] at h1
        rw [if_neg hy] at h2
        have e : v = if bI (x < y) = most then y else x := by
          rw [h3, h1, h2]
          rcases hm with q | q
          · rw [q, if_pos rfl]
            by_cases hxy : x < y
            · rw [bI_t hxy, if_neg (show ¬ (1 : Int32) = 0 by decide), if_neg (Int32.not_lt.mpr (Int32.le_of_lt hxy))]
            · rw [bI_f hxy, if_pos rfl]
              by_cases hyx : y < x
              · rw [if_pos hyx]
              · rw [if_neg hyx]
                exact i32_eq_of hxy hyx
          · rw [q, if_neg (show ¬ (1 : Int32) = 0 by decide)]
            by_cases hxy : x < y
            · rw [if_pos hxy, bI_t hxy, if_pos rfl]
            · rw [if_neg hxy, bI_f hxy, if_neg (show ¬ (0 : Int32) = 1 by decide)]
        have e2 : twoV x y most = if bI (x < y) = most then y else x := by
          unfold twoV
          rw [if_neg (fun h => hx h.1), if_neg hx, if_neg hy]
        have e3 : ¬ v = -9 := by
          rw [e]
          split
          · exact hy
          · exact hx
        rw [if_neg e3, e2, ← e]
  · simp only [if_neg h0] at h1 h2
    rw [if_neg h0]
    have e : v = rm r := by
      rw [h3, h1, h2, imax_self]
      split <;> rfl
    rw [e, if_neg h0]
/-! ===== the system's acts ===== -/
/-- 'need', then the act -/
def lookY {S : Type} (there : Bool) (miss same : S) (v : Int32) (go : Int32 × S) : Int32 × S := if ¬ inR v 0 3 then (-1, same) else if there = true then go else (-3, miss)
abbrev S3 (S : Nat → Nat → Option Nat) (v : Int32) : Bool := (S 3 (cl v)).isSome
abbrev YS : Type := MS × (Nat → va_E)
def xLay (S : Nat → Nat → Option Nat) (R : Nat → Nat → Int32) (d0 : Nat) (u : MS) (fp : Nat → va_E) (v ring place z : Int32) : Int32 × YS :=
  if ¬ z = -9 ∧ ¬ inR z 0 500 then (-1, (u, fp)) else
  lookY (S3 S v) (uFind u 1, fp) (u, fp) v (if ¬ (inR ring 0 11 ∧ inR place 0 7) then (-3, (uFind u 2, fp)) else
    (R (cl v) (8 * cl ring + cl place), (u, va_up fp ((S 3 (cl v)).getD 0) (.inl (d0, 96, .inl (upd (R (cl v)) (8 * cl ring + cl place) z))))))
def xAt (S : Nat → Nat → Option Nat) (R : Nat → Nat → Int32) (n : Nat) (u : MS) (v ring place fl sh : Int32) : Int32 × MS :=
  lookY (S3 S v) (uFind u 1) u v (if ¬ (inR ring 0 11 ∧ inR place 0 7) then (-3, uFind u 2) else (atV (gR (R (cl v)) (cl ring)) (u.2 5) (u.2 6) (u.2 7) (u.2 8) n (cl ring) (cl place) fl sh, u))
def xTear (S : Nat → Nat → Option Nat) (u : MS) (v : Int32) : Int32 × MS × (Nat → Nat → Option Nat) :=
  lookY (S3 S v) (uFind u 1, S) (u, S) v (1, (u, va_up S 3 (va_up (S 3) (cl v) none)))
def xRing (S : Nat → Nat → Option Nat) (R : Nat → Nat → Int32) (u : MS) (v ring : Int32) : Int32 × MS :=
  lookY (S3 S v) (uFind u 1) u v (if inR ring 0 11 then (roomV (gR (R (cl v)) (cl ring)), u) else (-3, uFind u 2))
def xRoom (S : Nat → Nat → Option Nat) (R : Nat → Nat → Int32) (u : MS) (v most : Int32) : Int32 × MS :=
  lookY (S3 S v) (uFind u 1) u v (allV (fun r => roomV (gR (R (cl v)) r)) most, u)
/-- the scans' rows stand in the pool -/
abbrev rowsIn (S : Nat → Nat → Option Nat) (R : Nat → Nat → Int32) (LP : List Nat) (fp : Nat → va_E) (d0 : Nat) : Prop := ∀ k y, k < 4 → S 3 k = some y → y ∈ LP ∧ fp y = .inl (d0, 96, .inl (R k))
def xScan (S : Nat → Nat → Option Nat) (d0 : Nat) (LP : List Nat) (fp : Nat → va_E) (v : Int32) (r : Int32) (u : (Nat → Nat → Option Nat) × List Nat × (Nat → va_E)) : Prop :=
  (¬ inR v 0 3 ∧ r = -1 ∧ u = (S, LP, fp)) ∨ (inR v 0 3 ∧ r = bI (S3 S v = true) ∧ ∃ q, q ∉ LP ∧ u = (va_up S 3 (va_up (S 3) (cl v) (some q)), LP ++ [q], va_up fp q (.inl (d0, 96, .inl (fillR (fun _ => 0) 0 96 (-9))))))
/-- the next end must lie behind the last: the system's words for it -/
theorem ply_in {en : Nat → Int32} {n : Nat} {x e : Int32} (hb : ∀ k, k < n → inR (en k) 1 1000) (he : e = if n = 0 then 1 else en (n - 1) + 1) : inR x e 1000 ↔ (inR x 1 1000 ∧ (n = 0 ∨ en (n - 1) < x)) := by
  rw [he]
  by_cases h0 : n = 0
  · rw [if_pos h0]
    exact ⟨fun h => ⟨h, Or.inl h0⟩, fun h => h.1⟩
  · rw [if_neg h0]
    have hk := hb (n - 1) (by omega)
    generalize en (n - 1) = y at hk ⊢
    have e1 : (1 : Int32).toInt = 1 := by decide
    have e2 : (1000 : Int32).toInt = 1000 := by decide
    have a1 := Int32.le_iff_toInt_le.mp hk.1
    have a2 := Int32.le_iff_toInt_le.mp hk.2
    have ey : (y + 1).toInt = y.toInt + 1 := by
      rw [Int32.toInt_add, e1]
      exact Int.bmod_eq_of_le (by omega) (by omega)
    constructor
    · intro h
      have b1 := Int32.le_iff_toInt_le.mp h.1
      exact ⟨⟨Int32.le_iff_toInt_le.mpr (by omega), h.2⟩, Or.inr (Int32.lt_iff_toInt_lt.mpr (by omega))⟩
    · intro h
      rcases h.2 with q | q
      · exact absurd q h0
      · have b1 := Int32.lt_iff_toInt_lt.mp q
        exact ⟨Int32.le_iff_toInt_le.mpr (by omega), h.1.2⟩
theorem abs_eq (x : Int32) : (if 0 ≤ x then x else 0 - x) = absI x := by
  unfold absI
  by_cases h : x < 0
  · rw [if_neg (Int32.not_le.mpr h), if_pos h, Int32.zero_sub]
  · rw [if_pos (Int32.not_lt.mp h), if_neg h]
