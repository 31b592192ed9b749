/-! ===== plain law: the search's cells, step by step ===== -/
theorem sumR_congr {f g : Nat → Int32} {n : Nat} (h : ∀ i, i < n → f i = g i) : sumR f n = sumR g n := by
  induction n with
  | zero => rfl
  | succ n ih =>
    show sumR f n + f n = sumR g n + g n
    rw [ih (fun i hi => h i (by omega)), h n (by omega)]
theorem up_lt {r : Nat → Nat} {k q i : Nat} (h : i < k) : va_up r k q i = r i := by
  unfold va_up
  rw [if_neg (by omega)]
theorem sum_push {f : Nat → Int32} {r : Nat → Nat} {k q : Nat} : sumR (fun i => f (va_up r k q i)) (k + 1) = sumR (fun i => f (r i)) k + f q := by
  show sumR (fun i => f (va_up r k q i)) k + f (va_up r k q k) = _
  rw [va_up_self, sumR_congr (g := fun i => f (r i)) (fun i hi => by rw [up_lt hi])]
theorem ex_push {C : Nat → Prop} {r : Nat → Nat} {k q : Nat} : (∃ i, i < k + 1 ∧ C (va_up r k q i)) ↔ (∃ i, i < k ∧ C (r i)) ∨ C q := by
  constructor
  · rintro ⟨i, hi, e⟩
    by_cases h : i < k
    · rw [up_lt h] at e
      exact Or.inl ⟨i, h, e⟩
    · rw [show i = k by omega, va_up_self] at e
      exact Or.inr e
  · rintro (⟨i, hi, e⟩ | e)
    · exact ⟨i, by omega, by rw [up_lt hi]; exact e⟩
    · exact ⟨k, by omega, by rw [va_up_self]; exact e⟩
theorem FRL.rf {u : MS} : FRL u u := ⟨fun _ _ _ _ _ _ _ => rfl, fun _ _ _ => rfl⟩
theorem FRL.tr {u v w : MS} (h : FRL u v) (h2 : FRL v w) : FRL u w := ⟨fun j a b c d e f => (h2.1 j a b c d e f).trans (h.1 j a b c d e f), fun j a b => (h2.2 j a b).trans (h.2 j a b)⟩
theorem LW_push {n T k q : Nat} {hd wt : Int32} {r : Nat → Nat} {g : GS} {I : Nat → Int32} {F : Nat → Nat → Int32} (h : LW n T hd wt k r g (I, F)) (hq : q < 16) (hk : k < 16) :
    LW n T hd wt (k + 1) (va_up r k q) g (upd I 14 (I 14 ||| ((1 : Int32) <<< (nI q &&& 31))), va_up F 13 (upd (F 13) k (nI q))) ∧ FRL (I, F) (upd I 14 (I 14 ||| ((1 : Int32) <<< (nI q &&& 31))), va_up F 13 (upd (F 13) k (nI q))) := by
  obtain ⟨⟨a1, a2, a3, a4⟩, ⟨b1, b2, b3, b4⟩, c1, c2, c3, c4⟩ := h
  refine ⟨⟨⟨a1, a2, a3, a4⟩, ⟨b1, b2, b3, b4⟩, fun p hp => ?_, fun i hi => ?_, c3, c4⟩, fun j a b c d e f => ?_, fun j a b => ?_⟩
  · show bitV (I 14 ||| ((1 : Int32) <<< (nI q &&& 31))) p = _
    rw [bit_or hp hq]
    have e := c1 p hp
    have x := ex_push (C := fun z => z = p) (r := r) (k := k) (q := q)
    by_cases w : p = q
    · rw [if_pos w]
      exact (bI_t (x.mpr (Or.inr w.symm))).symm
    · rw [if_neg w]
      refine e.trans (bI_not ?_)
      exact ⟨fun z => x.mpr (Or.inl z), fun z => (x.mp z).resolve_right (fun y => w y.symm)⟩
  · show upd (F 13) k (nI q) i = _
    rw [upd_at]
    by_cases w : i = k
    · rw [if_pos w, w, va_up_self]
    · rw [if_neg w, up_lt (by omega)]
      exact c2 i (by omega)
  · show (if j = 14 then _ else I j) = I j
    rw [if_neg a]
  · show (if j = 13 then _ else F j) = F j
    rw [if_neg a]
theorem LW_pop {n T k q : Nat} {hd wt : Int32} {r : Nat → Nat} {g : GS} {I : Nat → Int32} {F : Nat → Nat → Int32} (h : LW n T hd wt (k + 1) (va_up r k q) g (I, F)) (hq : q < 16) (hne : ¬ ∃ i, i < k ∧ r i = q) :
    LW n T hd wt k r g (upd I 14 (I 14 &&& (((1 : Int32) <<< (nI q &&& 31)) ^^^ (-1))), F) := by
  obtain ⟨⟨a1, a2, a3, a4⟩, ⟨b1, b2, b3, b4⟩, c1, c2, c3, c4⟩ := h
  refine ⟨⟨a1, a2, a3, a4⟩, ⟨b1, b2, b3, b4⟩, fun p hp => ?_, fun i hi => ?_, c3, c4⟩
  · show bitV (I 14 &&& (((1 : Int32) <<< (nI q &&& 31)) ^^^ (-1))) p = _
    rw [bit_andn hp hq]
    have e := c1 p hp
    have x := ex_push (C := fun z => z = p) (r := r) (k := k) (q := q)
    by_cases w : p = q
    · rw [if_pos w]
      subst w
      exact (bI_f hne).symm
    · rw [if_neg w]
      refine e.trans (bI_not ?_)
      exact ⟨fun z => (x.mp z).resolve_right (fun y => w y.symm), fun z => x.mpr (Or.inl z)⟩
  · have e := c2 i (by omega)
    rw [up_lt hi] at e
    exact e
theorem LW_ends {P : Nat → Nat → Int32} {n T k q : Nat} {hd wt hv pv : Int32} {r : Nat → Nat} {g : GS} {I : Nat → Int32} {F : Nat → Nat → Int32} (h : LW n T hd wt k r g (I, F)) (hk : k < 16) (e1 : hv = hiV P (va_up r k q) (k + 1)) (e2 : pv = prV P (va_up r k q) (k + 1)) :
    LW n T hd wt k r (endS P hd (va_up r k q) (k + 1) g) (endsX (I, va_up F 13 (upd (F 13) k (nI q))) (k + 1) hv pv) ∧ FRL (I, F) (endsX (I, va_up F 13 (upd (F 13) k (nI q))) (k + 1) hv pv) := by
  obtain ⟨⟨a1, a2, a3, a4⟩, ⟨b1, b2, b3, b4⟩, c1, c2, c3, c4, c5⟩ := h
  have c2' : ∀ i, i < k → upd (F 13) k (nI q) i = nI (r i) := fun i hi => by
    rw [upd_at, if_neg (by omega)]
    exact c2 i hi
  have iff : betterS P hd (va_up r k q) (k + 1) g ↔ (¬ hv < I 15 ∧ (I 21 = 0 ∨ pv < I 22 ∨ (pv = I 22 ∧ nI (k + 1) < I 21))) := by
    unfold betterS
    rw [show I 15 = hd from a2, show I 21 = nI g.2.1 from b3, ← e1, ← e2]
    have d1 : nI g.2.1 = 0 ↔ g.2.1 = 0 := nI_eq (a := g.2.1) (b := 0) (by omega) (by omega)
    have d2 : nI (k + 1) < nI g.2.1 ↔ k + 1 < g.2.1 := nI_ltI (by omega) (by omega)
    rw [Int32.not_lt, d1, d2]
    by_cases z : g.2.1 = 0
    · exact ⟨fun h => ⟨h.1, Or.inl z⟩, fun h => ⟨h.1, Or.inl z⟩⟩
    · rw [show I 22 = g.2.2.1 from (b4 z).1]
  by_cases w : betterS P hd (va_up r k q) (k + 1) g
  · have w2 := iff.mp w
    unfold endS endsX
    rw [if_pos w, if_pos w2]
    refine ⟨⟨⟨a1, a2, a3, a4⟩, ⟨b1, b2, rfl, fun _ => ⟨e2, e1⟩⟩, c1, c2', fun i hi => ?_, by show k + 1 ≤ 16; omega, c5⟩, fun j a b c d e f => ?_, fun j a b => ?_⟩
    · show va_cpy (upd (F 13) k (nI q)) (F 20) 0 0 (k + 1) i = _
      have hi' : i < k + 1 := hi
      unfold va_cpy
      rw [if_pos (by omega)]
      show upd (F 13) k (nI q) (0 + (i - 0)) = _
      rw [show 0 + (i - 0) = i by omega]
      show upd (F 13) k (nI q) i = nI (va_up r k q i)
      by_cases z : i = k
      · rw [z, va_up_self, upd_at, if_pos rfl]
      · rw [c2' i (by omega), up_lt (by omega)]
    · show upd (upd (upd I 21 _) 22 _) 23 _ j = I j
      rw [upd_at, if_neg f, upd_at, if_neg e, upd_at, if_neg d]
    · show va_up (va_up F 13 _) 20 _ j = F j
      unfold va_up
      rw [if_neg b, if_neg a]
  · have w2 : ¬ (¬ hv < I 15 ∧ (I 21 = 0 ∨ pv < I 22 ∨ (pv = I 22 ∧ nI (k + 1) < I 21))) := fun z => w (iff.mpr z)
    unfold endS endsX
    rw [if_neg w, if_neg w2]
    refine ⟨⟨⟨a1, a2, a3, a4⟩, ⟨b1, b2, b3, b4⟩, c1, c2', c3, c4, c5⟩, fun j a b c d e f => rfl, fun j a b => ?_⟩
    show va_up F 13 _ j = F j
    unfold va_up
    rw [if_neg a]
theorem LR_pop {n T k q : Nat} {hd wt : Int32} {r : Nat → Nat} {o : Option GS} {u : MS} (h : LR n T hd wt (k + 1) (va_up r k q) o u) (hq : q < 16) (hne : ¬ ∃ i, i < k ∧ r i = q) : LR n T hd wt k r o (upd u.1 14 (u.1 14 &&& (((1 : Int32) <<< (nI q &&& 31)) ^^^ (-1))), u.2) := by
  cases o with
  | none => exact h
  | some s => exact LW_pop h hq hne
theorem LR_popF {u v : MS} {x : Int32} (h : FRL u v) : FRL u (upd v.1 14 x, v.2) := ⟨fun j a b c d e f => by
  show (if j = 14 then x else v.1 j) = u.1 j
  rw [if_neg a]
  exact h.1 j a b c d e f, h.2⟩
theorem fold_at {f : Nat → GS → Option GS} {p n : Nat} {g : GS} (h : p < n) : foldF f p (n - p) g = (f p g).bind (foldF f (p + 1) (n - (p + 1))) := by
  rw [show n - p = (n - (p + 1)) + 1 by omega]
  rfl
theorem FRL_19 {u : MS} {I : Nat → Int32} {F : Nat → Nat → Int32} {x : Int32} (h : FRL u (I, F)) : FRL u (upd I 19 x, F) := ⟨fun j a b c d e f => by
  show (if j = 19 then x else I j) = u.1 j
  rw [if_neg c]
  exact h.1 j a b c d e f, h.2⟩
theorem LW_try {n T k : Nat} {hd wt : Int32} {r : Nat → Nat} {g : GS} {I : Nat → Int32} {F : Nat → Nat → Int32} (h : LW n T hd wt k r g (I, F)) (ht : ¬ g.1 = T) :
    LW n T hd wt k r (g.1 + 1, g.2) (upd (upd I 19 0) 17 (nI (g.1 + 1)), F) ∧ FRL (I, F) (upd (upd I 19 0) 17 (nI (g.1 + 1)), F) := by
  obtain ⟨⟨a1, a2, a3, a4⟩, ⟨b1, b2, b3, b4⟩, c1, c2, c3, c4, c5⟩ := h
  refine ⟨⟨⟨a1, a2, a3, a4⟩, ⟨rfl, rfl, b3, b4⟩, c1, c2, c3, c4, by show g.1 + 1 ≤ T; omega⟩, fun j a b c d e f => ?_, fun _ _ _ => rfl⟩
  show upd (upd I 19 0) 17 _ j = I j
  rw [upd_at, if_neg b, upd_at, if_neg c]
