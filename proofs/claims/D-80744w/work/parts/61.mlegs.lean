/-! ===== plain law: a leg of the reference ===== -/
theorem barsV_ext {P P' : Nat → Nat → Int32} (h : ∀ w, w < 8 → P w = P' w) (a c : Nat) : barsV P a c = barsV P' a c := by
  unfold barsV
  rw [h 0 (by omega), h 4 (by omega), h 5 (by omega), h 7 (by omega)]
theorem mayM_ext {P P' : Nat → Nat → Int32} (h : ∀ w, w < 8 → P w = P' w) {hd wt : Int32} {r : Nat → Nat} {k q : Nat} : mayM P hd wt r k q ↔ mayM P' hd wt r k q := by
  unfold mayM mayN may0 mayI mayW
  rw [h 0 (by omega), h 1 (by omega), h 2 (by omega), h 6 (by omega), h 7 (by omega), barsV_ext h]
/-- the reference's cells as the search has them -/
def LMW (n T k : Nat) (hd : Int32) (r : Nat → Nat) (g : GS) (pr : Int32) (u : MS) : Prop :=
  u.1 13 = nI n ∧ u.1 26 = nI g.1 ∧ u.1 24 = bmV g.2.1 ∧ (¬ g.2.1 = 0 → u.1 25 = g.2.2.2.1 - hd ∧ pr = g.2.2.1 ∧ ∀ i, i < g.2.1 → u.2 23 i = nI (g.2.2.2.2 i)) ∧ (∀ i, i < k → u.2 22 i = nI (r i)) ∧ g.2.1 ≤ 16 ∧ g.1 ≤ T
def FRM (u v : MS) : Prop := (∀ j, j ≠ 24 → j ≠ 25 → j ≠ 26 → v.1 j = u.1 j) ∧ ∀ j, j ≠ 22 → j ≠ 23 → v.2 j = u.2 j
theorem FRM.rf {u : MS} : FRM u u := ⟨fun _ _ _ _ => rfl, fun _ _ _ => rfl⟩
theorem FRM.pm {u v : MS} (h : FRM u v) {P : Nat → Nat → Int32} (hp : ∀ w, w < 8 → pM u.2 w = P w) : ∀ w, w < 8 → pM v.2 w = P w := fun w hw => by
  rw [← hp w hw]
  exact h.2 (14 + w) (by omega) (by omega)
theorem FRM.tr {u v w : MS} (h : FRM u v) (h2 : FRM v w) : FRM u w := ⟨fun j a b c => (h2.1 j a b c).trans (h.1 j a b c), fun j a b => (h2.2 j a b).trans (h.2 j a b)⟩
/-- what is left at a place: from part p on, dd more parts at most to come -/
def lvF (P : Nat → Nat → Int32) (hd wt : Int32) (T n : Nat) (dd k : Nat) (r : Nat → Nat) (p : Nat) (g : GS) : Option GS :=
  match dd with
  | 0 => some g
  | dd + 1 => foldF (stepF P hd wt T k r (legF P hd wt T n dd (k + 1))) p (n - p) g
theorem lvF_0 {P : Nat → Nat → Int32} {hd wt : Int32} {T n dd k : Nat} {r : Nat → Nat} {g : GS} : lvF P hd wt T n dd k r 0 g = legF P hd wt T n dd k r g := by
  cases dd <;> rfl
theorem lvF_n {P : Nat → Nat → Int32} {hd wt : Int32} {T n dd k : Nat} {r : Nat → Nat} {g : GS} : lvF P hd wt T n dd k r n g = some g := by
  cases dd with
  | zero => rfl
  | succ dd =>
    unfold lvF
    rw [Nat.sub_self]
    rfl
theorem lvF_s {P : Nat → Nat → Int32} {hd wt : Int32} {T n dd k p : Nat} {r : Nat → Nat} {g : GS} (h : p < n) : lvF P hd wt T n (dd + 1) k r p g = (stepF P hd wt T k r (legF P hd wt T n dd (k + 1)) p g).bind (fun g' => lvF P hd wt T n (dd + 1) k r (p + 1) g') := fold_at h
theorem lvF_no {P : Nat → Nat → Int32} {hd wt : Int32} {T n dd k p : Nat} {r : Nat → Nat} {g : GS} (h : p < n) (hm : ¬ mayM P hd wt r k p) : lvF P hd wt T n dd k r p g = lvF P hd wt T n dd k r (p + 1) g := by
  cases dd with
  | zero => rfl
  | succ dd =>
    rw [lvF_s h, stepF, if_neg hm]
    rfl
theorem lvF_spent {P : Nat → Nat → Int32} {hd wt : Int32} {T n dd k p : Nat} {r : Nat → Nat} {g : GS} (h : p < n) (hm : mayM P hd wt r k p) (ht : g.1 = T) : lvF P hd wt T n (dd + 1) k r p g = none := by
  rw [lvF_s h, stepF, if_pos hm, if_pos ht]
  rfl
theorem lvF_foot {P : Nat → Nat → Int32} {hd wt : Int32} {T n dd k p : Nat} {r : Nat → Nat} {g : GS} (h : p < n) (hm : mayM P hd wt r k p) (ht : ¬ g.1 = T) (h3 : P 0 p = 3) : lvF P hd wt T n (dd + 1) k r p g = lvF P hd wt T n (dd + 1) k r (p + 1) (endS P hd (va_up r k p) (k + 1) (g.1 + 1, g.2)) := by
  rw [lvF_s h, stepF, if_pos hm, if_neg ht, if_pos h3]
  rfl
theorem lvF_deep {P : Nat → Nat → Int32} {hd wt : Int32} {T n dd k p : Nat} {r : Nat → Nat} {g : GS} (h : p < n) (hm : mayM P hd wt r k p) (ht : ¬ g.1 = T) (h3 : ¬ P 0 p = 3) : lvF P hd wt T n (dd + 1) k r p g = (lvF P hd wt T n dd (k + 1) (va_up r k p) 0 (g.1 + 1, g.2)).bind (fun g' => lvF P hd wt T n (dd + 1) k r (p + 1) g') := by
  rw [lvF_s h, stepF, if_pos hm, if_neg ht, if_neg h3, lvF_0]
theorem bm_neg {m : Nat} (h : m ≤ 16) : bmV m < 0 ↔ m = 0 := by
  unfold bmV
  by_cases z : m = 0
  · rw [if_pos z]
    exact ⟨fun _ => z, fun _ => by decide⟩
  · rw [if_neg z]
    exact ⟨fun q => absurd q (nI_pos (by omega)), fun q => absurd q z⟩
/-- the reference's words for 'better' -/
theorem mbet_iff {P : Nat → Nat → Int32} {hd pr b24 : Int32} {r : Nat → Nat} {k : Nat} {g : GS} (h24 : b24 = bmV g.2.1) (hb : g.2.1 ≤ 16) (hk : k ≤ 17) (hpr : ¬ g.2.1 = 0 → pr = g.2.2.1) : betterS P hd r k g ↔ (¬ hiV P r k < hd ∧ (b24 < 0 ∨ prV P r k < pr ∨ (prV P r k = pr ∧ nI k < b24))) := by
  unfold betterS
  rw [h24, bm_neg hb, Int32.not_lt]
  by_cases z : g.2.1 = 0
  · exact ⟨fun h => ⟨h.1, Or.inl z⟩, fun h => ⟨h.1, Or.inl z⟩⟩
  · have d2 : nI k < bmV g.2.1 ↔ k < g.2.1 := by
      unfold bmV
      rw [if_neg z]
      exact nI_ltI (by omega) (by omega)
    rw [hpr z, d2]
theorem LMW_no {P : Nat → Nat → Int32} {n T k q : Nat} {hd pr : Int32} {r : Nat → Nat} {g : GS} {J : Nat → Int32} {E : Nat → Nat → Int32} (h : LMW n T k hd r g pr (J, E)) (hn : ¬ betterS P hd (va_up r k q) (k + 1) g) : LMW n T k hd r (endS P hd (va_up r k q) (k + 1) g) pr (J, E) := by
  unfold endS
  rw [if_neg hn]
  exact h
theorem LMW_yes {P : Nat → Nat → Int32} {n T k q : Nat} {hd pr : Int32} {r : Nat → Nat} {g : GS} {J : Nat → Int32} {E : Nat → Nat → Int32} (h : LMW n T k hd r g pr (J, E)) (hk : k < 16) (hE : E 22 k = nI q) (hn : betterS P hd (va_up r k q) (k + 1) g) :
    LMW n T k hd r (endS P hd (va_up r k q) (k + 1) g) (prV P (va_up r k q) (k + 1)) (upd (upd J 24 (nI (k + 1))) 25 (hiV P (va_up r k q) (k + 1) - hd), va_up E 23 (va_cpy (E 22) (E 23) 0 0 (k + 1))) := by
  obtain ⟨h1, h2, h3, h4, h5, h6, h7⟩ := h
  unfold endS
  rw [if_pos hn]
  refine ⟨h1, h2, ?_, fun _ => ⟨rfl, rfl, fun i hi => ?_⟩, h5, by show k + 1 ≤ 16; omega, h7⟩
  · show nI (k + 1) = bmV (k + 1)
    unfold bmV
    rw [if_neg (by omega)]
  · show va_cpy (E 22) (E 23) 0 0 (k + 1) i = nI (va_up r k q i)
    have hi' : i < k + 1 := hi
    unfold va_cpy
    rw [if_pos (by omega), show 0 + (i - 0) = i by omega]
    by_cases z : i = k
    · rw [z, va_up_self]; exact hE
    · rw [up_lt (by omega)]; exact h5 i (by omega)
/-- what a leg answers, and what it leaves, in the reference -/
def mLegR (P : Nat → Nat → Int32) (n : Nat) (u0 : MS) (hd wt tt : Int32) (r : Int32) (u : MS) : Prop :=
  if ¬ (inR hd 1 3000 ∧ inR wt 1 300 ∧ inR tt 1 20000) then r = -1 ∧ u = u0 else
  FRM u0 u ∧
  match legG P hd wt (cl tt) n with
  | none => r = -6 ∧ u.1 24 = -9 ∧ u.1 26 = tt
  | some g => r = (if g.2.1 = 0 then -9 else g.2.2.1) ∧ u.1 24 = bmV g.2.1 ∧ u.1 26 = nI g.1 ∧ g.2.1 ≤ 16 ∧ (¬ g.2.1 = 0 → u.1 25 = g.2.2.2.1 - hd ∧ ∀ i, i < g.2.1 → u.2 23 i = nI (g.2.2.2.2 i))
theorem mleg_bad {P : Nat → Nat → Int32} {n : Nat} {u0 : MS} {hd wt tt : Int32} (h : ¬ (inR hd 1 3000 ∧ inR wt 1 300 ∧ inR tt 1 20000)) : mLegR P n u0 hd wt tt (-1) u0 := by
  unfold mLegR
  rw [if_pos h]
  exact ⟨rfl, rfl⟩
