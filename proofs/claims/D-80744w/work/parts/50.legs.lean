/-! ===== plain law: legs ===== -/
/-- a + f 0 + .. + f (k - 1) -/
def sumA (a : Int32) (f : Nat → Int32) : Nat → Int32
  | 0 => a
  | k + 1 => sumA a f k + f k
/-- part p may come behind the k parts r, as the reference asks it -/
abbrev may0 (P : Nat → Nat → Int32) (w : Int32) (r : Nat → Nat) (k p : Nat) : Prop := ¬ P 2 p < w ∧ P 7 p = 0 ∧ (if k = 0 then P 0 p = 1 else barsV P (r (k - 1)) p = 0)
abbrev mayI (P : Nat → Nat → Int32) (r : Nat → Nat) (p i : Nat) : Prop := ¬ r i = p ∧ ¬ (P 0 (r i) = 2 ∧ P 0 p = 2)
abbrev mayN (P : Nat → Nat → Int32) (w : Int32) (r : Nat → Nat) (k p j : Nat) : Prop := may0 P w r k p ∧ ∀ i, i < j → mayI P r p i
abbrev mayW (P : Nat → Nat → Int32) (r : Nat → Nat) (p j : Nat) : Int32 := sumA (P 1 p - P 6 p) (fun i => P 1 (r i) - P 6 (r i)) j
abbrev mayM (P : Nat → Nat → Int32) (h w : Int32) (r : Nat → Nat) (k p : Nat) : Prop := mayN P w r k p k ∧ mayW P r p k ≤ h
theorem mayN_s {P : Nat → Nat → Int32} {w : Int32} {r : Nat → Nat} {k p j : Nat} (h : mayN P w r k p j) (h1 : mayI P r p j) : mayN P w r k p (j + 1) := ⟨h.1, fun i hi => by
  by_cases e : i < j
  · exact h.2 i e
  · rw [show i = j by omega]; exact h1⟩
theorem mayN_p {P : Nat → Nat → Int32} {w : Int32} {r : Nat → Nat} {k p j : Nat} (h : mayN P w r k p (j + 1)) : mayN P w r k p j ∧ mayI P r p j := ⟨⟨h.1, fun i hi => h.2 i (by omega)⟩, h.2 j (by omega)⟩
/-- tries, how many parts the best has, its price, its height, itself -/
abbrev GS : Type := Nat × Nat × Int32 × Int32 × (Nat → Nat)
abbrev hiV (P : Nat → Nat → Int32) (r : Nat → Nat) (k : Nat) : Int32 := sumR (fun i => P 1 (r i)) k
abbrev prV (P : Nat → Nat → Int32) (r : Nat → Nat) (k : Nat) : Int32 := sumR (fun i => P 3 (r i)) k
abbrev cuV (P : Nat → Nat → Int32) (r : Nat → Nat) (k : Nat) : Int32 := sumR (fun i => P 6 (r i)) k
abbrev betterS (P : Nat → Nat → Int32) (h : Int32) (r : Nat → Nat) (k : Nat) (s : GS) : Prop := h ≤ hiV P r k ∧ (s.2.1 = 0 ∨ prV P r k < s.2.2.1 ∨ (prV P r k = s.2.2.1 ∧ k < s.2.1))
def endS (P : Nat → Nat → Int32) (h : Int32) (r : Nat → Nat) (k : Nat) (s : GS) : GS := if betterS P h r k s then (s.1, k, prV P r k, hiV P r k, r) else s
/-- f for p, p + 1, .. : q of them -/
def foldF (f : Nat → GS → Option GS) (p : Nat) : Nat → GS → Option GS
  | 0, s => some s
  | q + 1, s => (f p s).bind (foldF f (p + 1) q)
def stepF (P : Nat → Nat → Int32) (h w : Int32) (T k : Nat) (r : Nat → Nat) (deep : (Nat → Nat) → GS → Option GS) (p : Nat) (s : GS) : Option GS :=
  if mayM P h w r k p then (if s.1 = T then none else if P 0 p = 3 then some (endS P h (va_up r k p) (k + 1) (s.1 + 1, s.2)) else deep (va_up r k p) (s.1 + 1, s.2)) else some s
def legF (P : Nat → Nat → Int32) (h w : Int32) (T n : Nat) : Nat → Nat → (Nat → Nat) → GS → Option GS
  | 0, _, _, s => some s
  | d + 1, k, r, s => foldF (stepF P h w T k r (legF P h w T n d (k + 1))) 0 n s
/-- the parts so far: each is there, none comes twice, none is recalled, none is a foot -/
def pathOK (P : Nat → Nat → Int32) (n k : Nat) (r : Nat → Nat) : Prop := (∀ i, i < k → r i < n) ∧ (∀ i j, i < k → j < k → r i = r j → i = j) ∧ (∀ i, i < k → P 7 (r i) = 0) ∧ (∀ i, i < k → ¬ P 0 (r i) = 3)
theorem pathOK.lt {P : Nat → Nat → Int32} {n k : Nat} {r : Nat → Nat} (h : pathOK P n k r) : ∀ i, i < k → r i < n := h.1
theorem pathOK.inj {P : Nat → Nat → Int32} {n k : Nat} {r : Nat → Nat} (h : pathOK P n k r) : ∀ i j, i < k → j < k → r i = r j → i = j := h.2.1
theorem pathOK.rec {P : Nat → Nat → Int32} {n k : Nat} {r : Nat → Nat} (h : pathOK P n k r) : ∀ i, i < k → P 7 (r i) = 0 := h.2.2.1
theorem pathOK.foot {P : Nat → Nat → Int32} {n k : Nat} {r : Nat → Nat} (h : pathOK P n k r) : ∀ i, i < k → ¬ P 0 (r i) = 3 := h.2.2.2
theorem pathOK.nil {P : Nat → Nat → Int32} {n : Nat} {r : Nat → Nat} : pathOK P n 0 r := ⟨fun i h => absurd h (Nat.not_lt_zero i), fun i j h => absurd h (Nat.not_lt_zero i), fun i h => absurd h (Nat.not_lt_zero i), fun i h => absurd h (Nat.not_lt_zero i)⟩
theorem pathOK.snoc {P : Nat → Nat → Int32} {h w : Int32} {n k p : Nat} {r : Nat → Nat} (H : pathOK P n k r) (hp : p < n) (hm : mayM P h w r k p) (hf : ¬ P 0 p = 3) : pathOK P n (k + 1) (va_up r k p) := by
  have at_lt : ∀ i, i < k → va_up r k p i = r i := fun i hi => by
    unfold va_up
    rw [if_neg (by omega)]
  have at_k : va_up r k p k = p := va_up_self _ _ _
  refine ⟨fun i hi => ?_, fun i j hi hj e => ?_, fun i hi => ?_, fun i hi => ?_⟩
  · by_cases q : i < k
    · rw [at_lt i q]; exact H.lt i q
    · rw [show i = k by omega, at_k]; exact hp
  · by_cases q : i < k
    · rw [at_lt i q] at e
      by_cases q2 : j < k
      · rw [at_lt j q2] at e
        exact H.inj i j q q2 e
      · rw [show j = k by omega, at_k] at e
        exact absurd e (hm.1.2 i q).1
    · rw [show i = k by omega, at_k] at e
      by_cases q2 : j < k
      · rw [at_lt j q2] at e
        exact absurd e.symm (hm.1.2 j q2).1
      · omega
  · by_cases q : i < k
    · rw [at_lt i q]; exact H.rec i q
    · rw [show i = k by omega, at_k]; exact hm.1.1.2.1
  · by_cases q : i < k
    · rw [at_lt i q]; exact H.foot i q
    · rw [show i = k by omega, at_k]; exact hf
/-- n things in a row of more than n: no -/
theorem inj_le {n : Nat} : ∀ {k : Nat} {r : Nat → Nat}, (∀ i, i < k → r i < n) → (∀ i j, i < k → j < k → r i = r j → i = j) → k ≤ n := by
  induction n with
  | zero =>
    intro k r h1 h2
    rcases Nat.eq_zero_or_pos k with z | z
    · omega
    · exact absurd (h1 0 z) (Nat.not_lt_zero _)
  | succ n ih =>
    intro k r h1 h2
    rcases Nat.eq_zero_or_pos k with z | z
    · omega
    · by_cases hx : ∃ i, i < k ∧ r i = n
      · obtain ⟨i, hi, e⟩ := hx
        have h3 : k - 1 ≤ n := by
          refine ih (k := k - 1) (r := fun j => if j < i then r j else r (j + 1)) (fun j hj => ?_) (fun j1 j2 hj1 hj2 e2 => ?_)
          · show (if j < i then r j else r (j + 1)) < n
            split
            · have a := h1 j (by omega)
              have b : r j ≠ n := fun q => by
                have := h2 j i (by omega) hi (q.trans e.symm)
                omega
              omega
            · have a := h1 (j + 1) (by omega)
              have b : r (j + 1) ≠ n := fun q => by
                have := h2 (j + 1) i (by omega) hi (q.trans e.symm)
                omega
              omega
          · have e3 : (if j1 < i then r j1 else r (j1 + 1)) = (if j2 < i then r j2 else r (j2 + 1)) := e2
            split at e3 <;> split at e3
            · exact h2 j1 j2 (by omega) (by omega) e3
            · have := h2 j1 (j2 + 1) (by omega) (by omega) e3
              omega
            · have := h2 (j1 + 1) j2 (by omega) (by omega) e3
              omega
            · have := h2 (j1 + 1) (j2 + 1) (by omega) (by omega) e3
              omega
        omega
      · have h3 : k ≤ n := ih (k := k) (r := r) (fun j hj => by
          have a := h1 j hj
          have b : r j ≠ n := fun q => hx ⟨j, hj, q⟩
          omega) h2
        omega
/-- behind sixteen parts none may come -/
theorem may_16 {P : Nat → Nat → Int32} {h w : Int32} {n p : Nat} {r : Nat → Nat} (H : pathOK P n 16 r) (hn : n ≤ 16) (hp : p < n) : ¬ mayM P h w r 16 p := fun hm => by
  have h1 : 17 ≤ n := by
    refine inj_le (k := 17) (r := va_up r 16 p) (fun i hi => ?_) (fun i j hi hj e => ?_)
    · unfold va_up
      split
      · exact hp
      · exact H.lt i (by omega)
    · unfold va_up at e
      split at e <;> split at e
      · omega
      · exact absurd e.symm (hm.1.2 j (by omega)).1
      · exact absurd e (hm.1.2 i (by omega)).1
      · exact H.inj i j (by omega) (by omega) e
  omega
