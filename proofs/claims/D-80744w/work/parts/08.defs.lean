/-! the reference's cells, and what both sides' small acts do to scalars and arrays -/
abbrev MWF (b : Nat → Nat) (J : Nat → Int32) : List Value := [.int (J 0), .ref (b 1), .int (J 2), .ref (b 3), .ref (b 4), .ref (b 5), .int (J 6), .ref (b 7), .ref (b 8), .ref (b 9), .ref (b 10), .int (J 11), .ref (b 12), .int (J 13), .ref (b 14), .ref (b 15), .ref (b 16), .ref (b 17), .ref (b 18), .ref (b 19), .ref (b 20), .ref (b 21), .ref (b 22), .ref (b 23), .int (J 24), .int (J 25), .int (J 26), .int (J 27), .ref (b 28), .ref (b 29), .ref (b 30), .ref (b 31), .ref (b 32)]
abbrev MW (b : Nat → Nat) (J : Nat → Int32) (E : Nat → Nat → Int32) (d : Nat → Nat) : va_W := [(b 0, .inr (1, MWF b J)), (b 1, .inl (d 0, 6, .inl (E 1))), (b 3, .inl (d 1, 4, .inl (E 3))), (b 4, .inl (d 0, 384, .inl (E 4))), (b 5, .inl (d 0, 96, .inl (E 5))), (b 7, .inl (d 0, 12, .inl (E 7))), (b 8, .inl (d 0, 12, .inl (E 8))), (b 9, .inl (d 0, 12, .inl (E 9))), (b 10, .inl (d 0, 12, .inl (E 10))), (b 12, .inl (d 0, 8, .inl (E 12))), (b 14, .inl (d 0, 16, .inl (E 14))), (b 15, .inl (d 0, 16, .inl (E 15))), (b 16, .inl (d 0, 16, .inl (E 16))), (b 17, .inl (d 0, 16, .inl (E 17))), (b 18, .inl (d 0, 16, .inl (E 18))), (b 19, .inl (d 0, 16, .inl (E 19))), (b 20, .inl (d 0, 16, .inl (E 20))), (b 21, .inl (d 1, 16, .inl (E 21))), (b 22, .inl (d 0, 17, .inl (E 22))), (b 23, .inl (d 0, 17, .inl (E 23))), (b 28, .inl (d 1, 20, .inl (E 28))), (b 29, .inl (d 0, 60, .inl (E 29))), (b 30, .inl (d 0, 3, .inl (E 30))), (b 31, .inl (d 0, 2, .inl (E 31))), (b 32, .inl (d 0, 80, .inl (E 32)))]

abbrev MS : Type := (Nat → Int32) × (Nat → Nat → Int32)
/-- a finding is met -/
def uFind (u : MS) (f : Nat) : MS := (upd u.1 0 (nI f), va_up u.2 1 (upd (u.2 1) f (u.2 1 f + 1)))
/-! ===== plain law: numbers, rows, rooms ===== -/
abbrev cl (x : Int32) : Nat := x.toNatClampNeg
theorem iinc_m1 (x : Int32) : x + Int32.ofInt (-1) = x - 1 := by
  rw [Int32.sub_eq_add_neg]
  rfl
theorem cl_nI {n : Nat} (h : n < 2 ^ 31) : cl (nI n) = n := nI_clamp h
/-- n places from b on hold v -/
def fillR (f : Nat → Int32) (b n : Nat) (v : Int32) : Nat → Int32 := fun j => if b ≤ j ∧ j < b + n then v else f j
theorem fillR_0 (f : Nat → Int32) (b : Nat) (v : Int32) : fillR f b 0 v = f := by
  funext j
  unfold fillR
  rw [if_neg (by omega)]
theorem fillR_s (f : Nat → Int32) (b n : Nat) (v : Int32) : upd (fillR f b n v) (b + n) v = fillR f b (n + 1) v := by
  funext j
  unfold fillR upd
  by_cases h : j = b + n
  · rw [if_pos h, if_pos (by omega)]
  · rw [if_neg h]
    show (if b ≤ j ∧ j < b + n then v else f j) = _
    by_cases h2 : b ≤ j ∧ j < b + n
    · rw [if_pos h2, if_pos (by omega)]
    · rw [if_neg h2, if_neg (by omega)]
/-- f 0 + .. + f (n - 1) -/
def sumR (f : Nat → Int32) : Nat → Int32
  | 0 => 0
  | n + 1 => sumR f n + f n
/-- the first place below n that isn't lost; n: all are -/
def fstN (h : Nat → Int32) : Nat → Nat
  | 0 => 0
  | n + 1 => if fstN h n < n then fstN h n else if h n = -9 then n + 1 else n
theorem fstN_le (h : Nat → Int32) (n : Nat) : fstN h n ≤ n := by
  induction n with
  | zero => exact Nat.le_refl 0
  | succ n ih =>
    unfold fstN
    split
    · omega
    · split <;> omega
theorem fstN_eq {h : Nat → Int32} {n l : Nat} (h1 : l ≤ n) (hb : ∀ j, j < l → h j = -9) (he : l < n → ¬ h l = -9) : fstN h n = l := by
  induction n with
  | zero =>
    unfold fstN
    omega
  | succ n ih =>
    unfold fstN
    by_cases hl : l ≤ n
    · by_cases hn : l < n
      · have e := ih hl (fun _ => he (by omega))
        rw [e, if_pos hn]
      · have : l = n := by omega
        subst this
        have e := ih (Nat.le_refl l) (fun q => absurd q (Nat.lt_irrefl l))
        rw [e, if_neg (Nat.lt_irrefl l), if_neg (he (by omega))]
    · have : l = n + 1 := by omega
      subst this
      have e : fstN h n = n := by
        clear ih he
        have : ∀ k, k ≤ n → fstN h k = k := by
          intro k
          induction k with
          | zero => intro _; rfl
          | succ k ihk =>
            intro hk
            unfold fstN
            rw [ihk (by omega), if_neg (Nat.lt_irrefl k), if_pos (hb k (by omega))]
        exact this n (Nat.le_refl n)
      rw [e, if_neg (Nat.lt_irrefl n), if_pos (hb n (by omega))]
theorem fstN_spec (h : Nat → Int32) (n : Nat) : (∀ j, j < fstN h n → h j = -9) ∧ (fstN h n < n → ¬ h (fstN h n) = -9) := by
  induction n with
  | zero => exact ⟨fun j hj => absurd hj (Nat.not_lt_zero j), fun q => absurd q (Nat.not_lt_zero _)⟩
  | succ n ih =>
    unfold fstN
    by_cases h1 : fstN h n < n
    · rw [if_pos h1]
      exact ⟨ih.1, fun _ => ih.2 h1⟩
    · have e : fstN h n = n := by
        have := fstN_le h n
        omega
      rw [if_neg h1]
      by_cases h2 : h n = -9
      · rw [if_pos h2]
        refine ⟨fun j hj => ?_, fun q => absurd q (Nat.lt_irrefl _)⟩
        by_cases hj2 : j < n
        · exact ih.1 j (by omega)
        · rw [show j = n by omega]; exact h2
      · rw [if_neg h2]
        exact ⟨fun j hj => ih.1 j (by omega), fun _ => h2⟩
/-- a radius filled from its neighbours: g the ring's eight places -/
def fillV (g : Nat → Int32) (p : Nat) : Int32 :=
  if fstN (fun j => g ((p + 8 - j) % 8)) 8 = 0 then g p
  else if fstN (fun j => g ((p + 8 - j) % 8)) 8 = 8 then -9
  else (g ((p + 8 - fstN (fun j => g ((p + 8 - j) % 8)) 8) % 8) * nI (fstN (fun j => g ((p + j) % 8)) 8) + g ((p + fstN (fun j => g ((p + j) % 8)) 8) % 8) * nI (fstN (fun j => g ((p + 8 - j) % 8)) 8)) / nI (fstN (fun j => g ((p + 8 - j) % 8)) 8 + fstN (fun j => g ((p + j) % 8)) 8)
theorem fillV_eq {g : Nat → Int32} {p l r : Nat} (hl : l ≤ 8) (hb : ∀ j, j < l → g ((p + 8 - j) % 8) = -9) (he : l < 8 → ¬ g ((p + 8 - l) % 8) = -9) (hr : r ≤ 8) (rb : ∀ j, j < r → g ((p + j) % 8) = -9) (re : r < 8 → ¬ g ((p + r) % 8) = -9) (h0 : ¬ l = 0) (h8 : ¬ l = 8) :
    fillV g p = (g ((p + 8 - l) % 8) * nI r + g ((p + r) % 8) * nI l) / nI (l + r) := by
  have e1 : fstN (fun j => g ((p + 8 - j) % 8)) 8 = l := fstN_eq hl hb he
  have e2 : fstN (fun j => g ((p + j) % 8)) 8 = r := fstN_eq hr rb re
  unfold fillV
  rw [e1, e2, if_neg h0, if_neg h8]
theorem fillV_0 {g : Nat → Int32} {p : Nat} (hp : p < 8) (he : ¬ g p = -9) : fillV g p = g p := by
  have e1 : fstN (fun j => g ((p + 8 - j) % 8)) 8 = 0 := fstN_eq (by omega) (fun j hj => absurd hj (Nat.not_lt_zero j)) (fun _ => by rw [show (p + 8 - 0) % 8 = p by omega]; exact he)
  unfold fillV
  rw [e1, if_pos rfl]
theorem fillV_8 {g : Nat → Int32} {p : Nat} (hb : ∀ j, j < 8 → g ((p + 8 - j) % 8) = -9) : fillV g p = -9 := by
  have e1 : fstN (fun j => g ((p + 8 - j) % 8)) 8 = 8 := fstN_eq (by omega) hb (fun q => absurd q (Nat.lt_irrefl 8))
  unfold fillV
  rw [e1, if_neg (by decide), if_pos rfl]
/-- a place is lost, or holds up to 500 -/
def rOK (g : Nat → Int32) : Prop := ∀ j, j < 8 → g j = -9 ∨ ∃ a : Nat, a ≤ 500 ∧ g j = nI a
theorem nI_ne9 {a : Nat} (h : a < 2 ^ 31) : ¬ nI a = -9 := fun q => by
  have h1 := nI_pos h
  rw [q] at h1
  exact h1 (by decide)
/-- all are lost, and so is what is filled; or none is lost once filled -/
theorem fillV_val {g : Nat → Int32} (hg : rOK g) {p : Nat} (hp : p < 8) : ((∀ j, j < 8 → g j = -9) ∧ fillV g p = -9) ∨ ((∃ j, j < 8 ∧ ¬ g j = -9) ∧ ∃ a : Nat, a ≤ 500 ∧ fillV g p = nI a) := by
  obtain ⟨s1, s2⟩ := fstN_spec (fun j => g ((p + 8 - j) % 8)) 8
  have s3 := fstN_le (fun j => g ((p + 8 - j) % 8)) 8
  obtain ⟨t1, t2⟩ := fstN_spec (fun j => g ((p + j) % 8)) 8
  have t3 := fstN_le (fun j => g ((p + j) % 8)) 8
  generalize hl : fstN (fun j => g ((p + 8 - j) % 8)) 8 = l at s1 s2 s3
  generalize hr : fstN (fun j => g ((p + j) % 8)) 8 = r at t1 t2 t3
  unfold fillV
  rw [hl, hr]
  by_cases h8 : l = 8
  · left
    subst h8
    refine ⟨fun j hj => ?_, ?_⟩
    · have h1 := s1 ((p + 8 - j) % 8) (by omega)
      have e : (p + 8 - (p + 8 - j) % 8) % 8 = j := by omega
      rw [e] at h1
      exact h1
    · rw [if_neg (by decide), if_pos rfl]
  · right
    have hl8 : l < 8 := by omega
    have h2 := s2 hl8
    have hr8 : r < 8 := by
      rcases Nat.lt_or_ge r 8 with q | q
      · exact q
      · exfalso
        have h3 := t1 ((8 - l) % 8) (by omega)
        rw [show (p + (8 - l) % 8) % 8 = (p + 8 - l) % 8 by omega] at h3
        exact h2 h3
    have h4 := t2 hr8
    refine ⟨⟨(p + 8 - l) % 8, by omega, h2⟩, ?_⟩
    obtain ⟨a, ha, ea⟩ : ∃ a : Nat, a ≤ 500 ∧ g ((p + 8 - l) % 8) = nI a := (hg _ (by omega)).resolve_left h2
    obtain ⟨c, hc, ec⟩ : ∃ a : Nat, a ≤ 500 ∧ g ((p + r) % 8) = nI a := (hg _ (by omega)).resolve_left h4
    by_cases h0 : l = 0
    · rw [if_pos h0]
      subst h0
      rw [show (p + 8 - 0) % 8 = p by omega] at ea
      exact ⟨a, ha, ea⟩
    · rw [if_neg h0, if_neg h8, ea, ec, pk_mul, pk_mul, nI_add]
      have b1 : a * r ≤ 500 * r := Nat.mul_le_mul_right r ha
      have b2 : c * l ≤ 500 * l := Nat.mul_le_mul_right l hc
      rw [pk_div (by omega) (by omega) (by omega)]
      refine ⟨(a * r + c * l) / (l + r), ?_, rfl⟩
      have b3 : a * r + c * l ≤ (l + r) * 500 := by
        rw [Nat.add_mul]
        omega
      exact Nat.div_le_of_le_mul b3
/-- the room of a ring -/
def roomV (g : Nat → Int32) : Int32 := if fillV g 0 = -9 then -9 else sumR (fun p => fillV g p * fillV g ((p + 1) % 8)) 8
theorem sumR_nI {f : Nat → Int32} {n k : Nat} (h : ∀ j, j < n → ∃ a : Nat, a ≤ k ∧ f j = nI a) : ∃ a : Nat, a ≤ n * k ∧ sumR f n = nI a := by
  induction n with
  | zero => exact ⟨0, by omega, rfl⟩
  | succ n ih =>
    obtain ⟨a, h1, h2⟩ := ih (fun j hj => h j (by omega))
    obtain ⟨c, h3, h4⟩ := h n (by omega)
    refine ⟨a + c, by rw [Nat.succ_mul]; omega, ?_⟩
    unfold sumR
    rw [h2, h4, nI_add]
theorem roomV_val {g : Nat → Int32} (hg : rOK g) : roomV g = -9 ∨ ∃ a : Nat, a ≤ 2000000 ∧ roomV g = nI a := by
  unfold roomV
  rcases fillV_val hg (p := 0) (by omega) with ⟨h1, h2⟩ | ⟨⟨j, hj, hn⟩, a, h3, h4⟩
  · rw [if_pos h2]
    exact Or.inl rfl
  · rw [if_neg (by rw [h4]; exact nI_ne9 (by omega))]
    right
    have v : ∀ q, q < 8 → ∃ a : Nat, a ≤ 500 ∧ fillV g q = nI a := by
      intro q hq
      rcases fillV_val hg hq with ⟨z, -⟩ | ⟨-, z⟩
      · exact absurd (z j hj) hn
      · exact z
    obtain ⟨z, z1, z2⟩ := sumR_nI (f := fun p => fillV g p * fillV g ((p + 1) % 8)) (n := 8) (k := 250000) (fun i hi => by
      obtain ⟨x, hx, ex⟩ := v i hi
      obtain ⟨y, hy, ey⟩ := v ((i + 1) % 8) (by omega)
      exact ⟨x * y, Nat.mul_le_mul hx hy, by show fillV g i * fillV g ((i + 1) % 8) = _; rw [ex, ey, pk_mul]⟩)
    exact ⟨z, by omega, z2⟩
theorem roomV_n {g : Nat → Int32} (hg : rOK g) {i : Nat} (hi : i < 8) (h : fillV g i = -9) : roomV g = -9 := by
  rcases fillV_val hg hi with ⟨h1, -⟩ | ⟨-, a, h3, h4⟩
  · rcases fillV_val hg (p := 0) (by omega) with ⟨-, h2⟩ | ⟨⟨j, hj, hn⟩, -⟩
    · unfold roomV
      rw [if_pos h2]
    · exact absurd (h1 j hj) hn
  · exact absurd (h4.symm.trans h) (nI_ne9 (by omega))
/-- the nearest ring's room below r; above, with n rings left -/
def belN (rm : Nat → Int32) : Nat → Int32
  | 0 => -9
  | r + 1 => if rm r = -9 then belN rm r else rm r
def abvN (rm : Nat → Int32) : Nat → Int32
  | 0 => -9
  | n + 1 => if rm (12 - (n + 1)) = -9 then abvN rm n else rm (12 - (n + 1))
/-- two rooms beside a ring without one: what it counts for -/
def twoV (a c most : Int32) : Int32 := if a = -9 ∧ c = -9 then 0 else if a = -9 then c else if c = -9 then a else if bI (a < c) = most then c else a
/-- what a ring counts for -/
def pickV (rm : Nat → Int32) (most : Int32) (r : Nat) : Int32 := if rm r = -9 then twoV (belN rm r) (abvN rm (11 - r)) most else rm r
theorem cpy_0 {α : Type} (f g : Nat → α) (sp dp : Nat) : va_cpy f g sp dp 0 = g := by
  funext k
  unfold va_cpy
  rw [if_neg (by omega)]
theorem cpy_s (f g : Nat → Int32) (sp dp t : Nat) : upd (va_cpy f g sp dp t) (dp + t) (f (sp + t)) = va_cpy f g sp dp (t + 1) := by
  funext k
  unfold upd va_cpy
  by_cases h : k = dp + t
  · rw [if_pos h, if_pos (by omega), show k - dp = t by omega]
  · rw [if_neg h]
    by_cases h2 : dp ≤ k ∧ k < dp + t
    · show (if dp ≤ k ∧ k < dp + t then f (sp + (k - dp)) else g k) = _
      rw [if_pos h2, if_pos (by omega)]
    · show (if dp ≤ k ∧ k < dp + t then f (sp + (k - dp)) else g k) = _
      rw [if_neg h2, if_neg (by omega)]
theorem lg_gt {x y : Int64} : 0 < lg_cmp x y ↔ y < x := by
  unfold lg_cmp
  by_cases h1 : y < x
  · rw [if_pos h1]
    exact ⟨fun _ => h1, fun _ => by decide⟩
  · rw [if_neg h1]
    refine ⟨fun h => ?_, fun h => absurd h h1⟩
    by_cases h2 : x = y
    · rw [if_pos h2] at h
      exact absurd h (by decide)
    · rw [if_neg h2] at h
      exact absurd h (by decide)
theorem lsum_lt {a c : Int32} : (96 : Int64) < a.toInt64 + c.toInt64 ↔ 96 < a.toInt + c.toInt := by
  have h1 := a.toInt_lt
  have h2 := a.le_toInt
  have h3 := c.toInt_lt
  have h4 := c.le_toInt
  rw [Int64.lt_iff_toInt_lt, Int64.toInt_add, Int32.toInt_toInt64, Int32.toInt_toInt64, Int.bmod_eq_of_le (by omega) (by omega)]
  exact Iff.rfl
/-! ===== the reference's acts on its scans ===== -/
abbrev gM (E : Nat → Nat → Int32) (k r : Nat) : Nat → Int32 := fun j => E 4 (96 * k + 8 * r + j)
def mScan (u : MS) (s : Int32) : Int32 × MS :=
  if inR s 0 3 then (bI (¬ u.2 3 (cl s) = 0), (u.1, va_up (va_up u.2 3 (upd (u.2 3) (cl s) 1)) 4 (fillR (u.2 4) (96 * cl s) 96 (-9)))) else (-1, u)
/-- what 'looked' answers when it isn't 0 -/
def lookX (there : Prop) [Decidable there] (u : MS) (s : Int32) (go : Int32 × MS) : Int32 × MS :=
  if ¬ inR s 0 3 then (-1, u) else if there then go else (-3, uFind u 1)
def mLay (u : MS) (s ring place v : Int32) : Int32 × MS :=
  if ¬ v = -9 ∧ ¬ inR v 0 500 then (-1, u) else
  lookX (¬ u.2 3 (cl s) = 0) u s (if ¬ (inR ring 0 11 ∧ inR place 0 7) then (-3, uFind u 2) else
    (u.2 4 (96 * cl s + 8 * cl ring + cl place), (u.1, va_up u.2 4 (upd (u.2 4) (96 * cl s + 8 * cl ring + cl place) v))))
/-- rules laid on a radius: the first n -/
def ruleS (rf rt rp rb : Nat → Int32) (ring place : Nat) (v : Int32) : Nat → Int32
  | 0 => v
  | k + 1 => ruleS rf rt rp rb ring place v k + (if inR (nI ring) (rf k) (rt k) ∧ (rp k >>> (nI place &&& 31)) &&& 1 = 1 then rb k else 0)
def shapeV (rf rt rp rb : Nat → Int32) (n ring place : Nat) (v : Int32) : Int32 :=
  if v = -9 then -9 else if ruleS rf rt rp rb ring place v n < 0 then 0 else ruleS rf rt rp rb ring place v n
def atV (g : Nat → Int32) (rf rt rp rb : Nat → Int32) (n ring place : Nat) (filled shaped : Int32) : Int32 :=
  if ¬ shaped = 0 then shapeV rf rt rp rb n ring place (fillV g place) else if ¬ filled = 0 then fillV g place else g place
def mAt (n : Nat) (u : MS) (s ring place filled shaped : Int32) : Int32 × MS :=
  lookX (¬ u.2 3 (cl s) = 0) u s (if ¬ (inR ring 0 11 ∧ inR place 0 7) then (-3, uFind u 2) else
    (atV (gM u.2 (cl s) (cl ring)) (u.2 7) (u.2 8) (u.2 9) (u.2 10) n (cl ring) (cl place) filled shaped, u))
def mTear (u : MS) (s : Int32) : Int32 × MS :=
  lookX (¬ u.2 3 (cl s) = 0) u s (1, (u.1, va_up u.2 3 (upd (u.2 3) (cl s) 0)))
def mRing (u : MS) (s ring : Int32) : Int32 × MS :=
  lookX (¬ u.2 3 (cl s) = 0) u s (if inR ring 0 11 then (roomV (gM u.2 (cl s) (cl ring)), u) else (-3, uFind u 2))
def allV (rm : Nat → Int32) (most : Int32) : Int32 := sumR (pickV rm most) 12
def mRoom (u : MS) (s most : Int32) : Int32 × MS :=
  lookX (¬ u.2 3 (cl s) = 0) u s (allV (fun r => roomV (gM u.2 (cl s) r)) most, u)
/-- how many of the first n aren't lost, and their sum -/
def cntV (f : Nat → Int32) : Nat → Nat
  | 0 => 0
  | n + 1 => cntV f n + (if f n = -9 then 0 else 1)
theorem cntV_le (f : Nat → Int32) (n : Nat) : cntV f n ≤ n := by
  induction n with
  | zero => exact Nat.le_refl 0
  | succ n ih =>
    unfold cntV
    split <;> omega
def mMean (u : MS) (s : Int32) : Int32 × MS :=
  lookX (¬ u.2 3 (cl s) = 0) u s (if cntV (fun j => u.2 4 (96 * cl s + j)) 96 = 0 then (-3, uFind u 4) else
    (sumR (fun j => if u.2 4 (96 * cl s + j) = -9 then 0 else u.2 4 (96 * cl s + j)) 96 / nI (cntV (fun j => u.2 4 (96 * cl s + j)) 96), u))

def mCopy (u : MS) (s i t j n : Int32) : Int32 × MS :=
  if ¬ (inR s 0 3 ∧ inR t 0 3) then (-1, u) else if n < 0 then (-3, uFind u 5) else
  if ¬ (¬ u.2 3 (cl s) = 0 ∧ ¬ u.2 3 (cl t) = 0) then (-3, uFind u 1) else
  if ¬ (0 ≤ i ∧ 0 ≤ j ∧ i.toInt + n.toInt ≤ 96 ∧ j.toInt + n.toInt ≤ 96) then (-3, uFind u 2) else
  (1, (u.1, va_up (va_up u.2 5 (va_cpy (u.2 4) (u.2 5) (96 * cl s + cl i) 0 (cl n))) 4 (va_cpy (u.2 4) (u.2 4) (96 * cl s + cl i) (96 * cl t + cl j) (cl n))))
theorem cpy_s0 (f g : Nat → Int32) (sp t : Nat) : upd (va_cpy f g sp 0 t) t (f (sp + t)) = va_cpy f g sp 0 (t + 1) := by
  have h := cpy_s f g sp 0 t
  rw [Nat.zero_add] at h
  exact h
theorem cpy_in0 {f g : Nat → Int32} {sp n t : Nat} (h : t < n) : va_cpy f g sp 0 n t = f (sp + t) := by
  unfold va_cpy
  rw [if_pos (by omega), Nat.sub_zero]
theorem inR_p {p : Int32} {n : Nat} (hn : n < 2 ^ 31) (h : inR p 0 (nI n - 1)) : ∃ j : Nat, j < n ∧ p = nI j := by
  rcases Nat.eq_zero_or_pos n with z | z
  · subst z
    exact absurd (Int32.le_trans h.1 h.2) (by decide)
  · rw [show nI n - 1 = nI (n - 1) from pk_sub (b := 1) (by omega)] at h
    obtain ⟨j, hj, e⟩ := inR_n (n := n - 1) (by omega) h
    exact ⟨j, by omega, e⟩
theorem p_inR {j n : Nat} (hj : j < n) (hn : n < 2 ^ 31) : inR (nI j) 0 (nI n - 1) := by
  rw [show nI n - 1 = nI (n - 1) from pk_sub (b := 1) (by omega)]
  exact nI_inR (by omega) (by omega)
theorem i64_ne0 {x : Int32} (h : ¬ x = 0) : ¬ x.toInt64 = 0 := fun q => h (by
  have h1 : x.toInt64.toInt = (0 : Int64).toInt := by rw [q]
  rw [Int32.toInt_toInt64] at h1
  exact Int32.toInt_inj.mp h1)
/-- a rule: its number and four columns are the fields f0 .. f4 -/
def ruleOp (f0 f1 f2 f3 f4 n : Nat) (u : MS) (a c p v : Int32) : Int32 × MS :=
  if inR a 0 11 ∧ inR c a 11 ∧ inR p 1 255 ∧ inR v (-50) 50 then
    (if n = 12 then (-2, u) else (nI n, (upd u.1 f0 (nI (n + 1)), va_up (va_up (va_up (va_up u.2 f1 (upd (u.2 f1) n a)) f2 (upd (u.2 f2) n c)) f3 (upd (u.2 f3) n p)) f4 (upd (u.2 f4) n v))))
  else (-1, u)
def plyOp (f0 fe n : Nat) (u : MS) (x : Int32) : Int32 × MS :=
  if inR x 1 1000 ∧ (n = 0 ∨ u.2 fe (n - 1) < x) then (if n = 8 then (-2, u) else (nI (n + 1), (upd u.1 f0 (nI (n + 1)), va_up u.2 fe (upd (u.2 fe) n x)))) else (-1, u)
def pliesV (en : Nat → Int32) (n : Nat) (w z : Int32) : Int32 := sumR (fun k => if (en k).toInt64 ≤ (1000 * (w - z).toInt64) / w.toInt64 then 1 else 0) n
def mPlies (n : Nat) (u : MS) (s t : Int32) : Int32 × MS :=
  if ¬ (inR s 0 3 ∧ inR t 0 3) then (-1, u) else if ¬ (¬ u.2 3 (cl s) = 0 ∧ ¬ u.2 3 (cl t) = 0) then (-3, uFind u 1) else
  if allV (fun r => roomV (gM u.2 (cl s) r)) 0 = 0 then (-3, uFind u 4) else
  (pliesV (u.2 12) n (allV (fun r => roomV (gM u.2 (cl s) r)) 0) (allV (fun r => roomV (gM u.2 (cl t) r)) 0), u)
/-- parts: P 0 kind, 1 height, 2 bears, 3 price, 4 upper, 5 lower, 6 cut, 7 recalled -/
abbrev partOK (k h be pr up lo cu : Int32) : Prop := inR k 0 4 ∧ inR h 1 500 ∧ inR be 1 300 ∧ inR pr 0 10000 ∧ inR up 0 7 ∧ inR lo 0 7 ∧ (k = 4 → inR cu 0 300 ∧ cu < h)
def mPart (n : Nat) (u : MS) (k h be pr up lo cu : Int32) : Int32 × MS :=
  if partOK k h be pr up lo cu then
    (if n = 16 then (-2, u) else (nI n, (upd u.1 13 (nI (n + 1)), va_up (va_up (va_up (va_up (va_up (va_up (va_up u.2 14 (upd (u.2 14) n k)) 15 (upd (u.2 15) n h)) 16 (upd (u.2 16) n be)) 17 (upd (u.2 17) n pr)) 18 (upd (u.2 18) n up)) 19 (upd (u.2 19) n lo)) 20 (upd (u.2 20) n (if k = 4 then cu else 0)))))
  else (-1, u)
def toldV (P : Nat → Nat → Int32) (p w : Nat) : Int32 := if w < 6 then P w p else bI (¬ P 7 p = 0)
abbrev pM (E : Nat → Nat → Int32) : Nat → Nat → Int32 := fun w => E (14 + w)
def toldOp (P : Nat → Nat → Int32) (n : Nat) (p w : Int32) : Int32 := if inR p 0 (nI n - 1) ∧ inR w 0 6 then toldV P (cl p) (cl w) else -1
abbrev markB (P : Nat → Nat → Int32) (p : Nat) (k : Int32) (q : Nat) : Prop := ¬ q = p ∧ P 7 q = 0 ∧ (if k = 1 then P 4 q = P 5 p else P 5 q = P 4 p)
def markV (P : Nat → Nat → Int32) (n p : Nat) (k : Int32) : Int32 :=
  if k = 3 then P 3 p / P 1 p else if k = 4 then P 6 p else sumR (fun q => if markB P p k q then 1 else 0) n
def markOp (P : Nat → Nat → Int32) (n : Nat) (u : MS) (p k : Int32) : Int32 × MS :=
  if ¬ (inR p 0 (nI n - 1) ∧ inR k 1 4) then (-1, u) else if ¬ P 0 (cl p) = k then (-3, uFind u 3) else (markV P n (cl p) k, u)
def mRecall (n : Nat) (u : MS) (p is : Int32) : Int32 × MS :=
  if inR p 0 (nI n - 1) then (bI (¬ u.2 21 (cl p) = 0), (u.1, va_up u.2 21 (upd (u.2 21) (cl p) is))) else (-1, u)
def barsV (P : Nat → Nat → Int32) (a c : Nat) : Int32 :=
  (if P 5 a = P 4 c then 0 else 1) + (if ¬ P 7 a = 0 ∨ ¬ P 7 c = 0 then 2 else 0) + (if P 0 a = 3 ∨ P 0 c = 1 then 4 else 0) + (if P 0 a = 2 ∧ P 0 c = 2 then 8 else 0)
def unfitOp (P : Nat → Nat → Int32) (n : Nat) (a c : Int32) : Int32 := if inR a 0 (nI n - 1) ∧ inR c 0 (nI n - 1) ∧ ¬ a = c then barsV P (cl a) (cl c) else -1
def bmV (bm : Nat) : Int32 := if bm = 0 then -9 else nI bm
def legAtV (bs : Nat → Int32) (bm : Nat) (i : Int32) : Int32 := if bm = 0 then -9 else if i = -1 then nI bm else if inR i 0 (nI bm - 1) then bs (cl i) else -9
def cutsV (bm : Nat) (x : Int32) : Int32 := if bm = 0 then -9 else x
def mShift (n : Nat) (u : MS) (x y z : Int32) : Int32 × MS :=
  if inR x (-50) 50 ∧ inR y (-50) 50 ∧ inR z (-50) 50 then
    (if n = 20 then (-2, u) else (nI (n + 1), (upd u.1 27 (nI (n + 1)), va_up (va_up u.2 28 (upd (u.2 28) n 0)) 29 (upd (upd (upd (u.2 29) (3 * n) x) (3 * n + 1) y) (3 * n + 2) z))))
  else (-1, u)
def mTurn (n : Nat) (u : MS) (ax fw : Int32) : Int32 × MS :=
  if inR ax 0 2 then
    (if n = 20 then (-2, u) else (nI (n + 1), (upd u.1 27 (nI (n + 1)), va_up (va_up u.2 28 (upd (u.2 28) n 1)) 29 (upd (upd (u.2 29) (3 * n) ax) (3 * n + 1) (if fw = 0 then -1 else 1)))))
  else (-1, u)
def mUndo (n : Nat) (u : MS) : Int32 × MS := if n = 0 then (-4, u) else (nI (n - 1), (upd u.1 27 (nI (n - 1)), u.2))
def stepOp (fs fl : Nat) (u : MS) (w x : Int32) : Int32 × MS :=
  if inR w 0 1 ∧ inR x 0 2000 then
    (if cl (u.2 fs (cl w)) = 40 then (-2, u) else (nI (cl (u.2 fs (cl w)) + 1), (u.1, va_up (va_up u.2 fl (upd (u.2 fl) (40 * cl w + cl (u.2 fs (cl w))) x)) fs (upd (u.2 fs) (cl w) (nI (cl (u.2 fs (cl w)) + 1))))))
  else (-1, u)
def clearOp (fs : Nat) (u : MS) (w : Int32) : Int32 × MS := if inR w 0 1 then (u.2 fs (cl w), (u.1, va_up u.2 fs (upd (u.2 fs) (cl w) 0))) else (-1, u)
def meanLoadOp (fs fl : Nat) (u : MS) (w : Int32) : Int32 × MS :=
  if ¬ inR w 0 1 then (-1, u) else if cl (u.2 fs (cl w)) = 0 then (-3, uFind u 4) else
  (sumR (fun i => u.2 fl (40 * cl w + i)) (cl (u.2 fs (cl w))) / nI (cl (u.2 fs (cl w))), u)
def countV (th rc : Nat → Int32) (rn pn mn en : Nat) (w : Int32) : Int32 :=
  if w = 0 then sumR (fun k => bI (¬ th k = 0)) 4 else if w = 1 then nI rn else if w = 2 then nI pn else if w = 3 then sumR (fun k => bI (¬ rc k = 0)) pn else if w = 4 then nI mn else nI en
def countOp (th rc : Nat → Int32) (rn pn mn en : Nat) (w : Int32) : Int32 := if inR w 0 5 then countV th rc rn pn mn en w else -1
def findingsOp (f : Nat → Int32) (w : Int32) : Int32 := if inR w 1 5 then f (cl w) else -1
/-- a point goes by one move: t = 0 a shift by x, y, z; else a turn about the axis x, forward (y = 1) or back (y = -1) -/
def actS (t x y z : Int32) (f : Nat → Int32) : Nat → Int32 :=
  if t = 0 then upd (upd (upd f 0 (f 0 + x)) 1 (upd f 0 (f 0 + x) 1 + y)) 2 (upd (upd f 0 (f 0 + x)) 1 (upd f 0 (f 0 + x) 1 + y) 2 + z)
  else upd (upd f ((cl x + 1) % 3) (-y * f ((cl x + 2) % 3))) ((cl x + 2) % 3) (y * f ((cl x + 1) % 3))
def goS (mt mr f : Nat → Int32) : Nat → (Nat → Int32)
  | 0 => f
  | k + 1 => actS (mt k) (mr (3 * k)) (mr (3 * k + 1)) (mr (3 * k + 2)) (goS mt mr f k)
abbrev pt0 (f : Nat → Int32) (x y z : Int32) : Nat → Int32 := upd (upd (upd f 0 x) 1 y) 2 z
theorem upd_at (f : Nat → Int32) (k j : Nat) (x : Int32) : upd f k x j = if j = k then x else f j := rfl
theorem actS_ext {t x y z : Int32} {f g : Nat → Int32} (h : ∀ j, j < 3 → f j = g j) : ∀ j, j < 3 → actS t x y z f j = actS t x y z g j := by
  intro j hj
  unfold actS
  have h0 := h 0 (by omega)
  have h1 := h 1 (by omega)
  have h2 := h 2 (by omega)
  split
  · simp only [upd_at]
    rcases (show j = 0 ∨ j = 1 ∨ j = 2 by omega) with rfl | rfl | rfl
    · simp [h0]
    · simp [h1]
    · simp [h2]
  · simp only [upd_at]
    rw [h _ (show (cl x + 1) % 3 < 3 by omega), h _ (show (cl x + 2) % 3 < 3 by omega), h j hj]
theorem goS_ext {mt mr f g : Nat → Int32} (h : ∀ j, j < 3 → f j = g j) (n : Nat) : ∀ j, j < 3 → goS mt mr f n j = goS mt mr g n j := by
  induction n with
  | zero => exact h
  | succ n ih => exact actS_ext ih
theorem pt0_ext (f g : Nat → Int32) (x y z : Int32) : ∀ j, j < 3 → pt0 f x y z j = pt0 g x y z j := by
  intro j hj
  simp only [upd_at]
  rcases (show j = 0 ∨ j = 1 ∨ j = 2 by omega) with rfl | rfl | rfl <;> simp
abbrev zF : Nat → Int32 := fun _ => 0
def whereV (mt mr : Nat → Int32) (n w a : Nat) : Int32 :=
  if w = 0 then goS mt mr (pt0 zF 0 0 0) n a
  else goS mt mr (pt0 zF (if w = 1 then 1 else 0) (if w = 2 then 1 else 0) (if w = 3 then 1 else 0)) n a - goS mt mr (pt0 zF 0 0 0) n a
def mWhere (n : Nat) (f : Nat → Int32) (u : MS) (w a : Int32) : Int32 × MS :=
  if inR w 0 3 ∧ inR a 0 2 then (1, (upd u.1 2 (whereV (u.2 28) (u.2 29) n (cl w) (cl a)), va_up u.2 30 f)) else (-1, u)
def absI (x : Int32) : Int32 := if x < 0 then -x else x
def difV (ld : Nat → Int32) (n s : Nat) : Int32 := sumR (fun i => absI (ld i - ld (40 + (i + s) % n))) n
def bstV (ld : Nat → Int32) (n : Nat) : Nat → Int32 × Int32
  | 0 => (-9, 0)
  | s + 1 => if (bstV ld n s).1 < 0 ∨ difV ld n s < (bstV ld n s).2 then (nI s, difV ld n s) else bstV ld n s
def evenOp (fs fl n : Nat) (u : MS) : Int32 × MS :=
  if n = 0 ∨ ¬ nI n = u.2 fs 1 then (-4, u) else ((bstV (u.2 fl) n n).1, (upd u.1 2 (bstV (u.2 fl) n n).2, u.2))
def dgI (f : Nat → Int32) (h : Int64) : Nat → Int64
  | 0 => h
  | n + 1 => 31 * dgI f h n + (f n).toInt64
def dgR (th : Nat → Int32) (g : Nat → Nat → Int32) (h : Int64) : Nat → Int64
  | 0 => h
  | k + 1 => if th k = 0 then 31 * dgR th g h k - 1 else dgI (g k) (dgR th g h k) 96
def dgP (P : Nat → Nat → Int32) (h : Int64) : Nat → Int64
  | 0 => h
  | k + 1 => dgI (toldV P k) (dgP P h k) 7
def dgL (sz : Nat → Nat) (ld : Nat → Int32) (h : Int64) : Nat → Int64
  | 0 => h
  | k + 1 => dgI (fun i => ld (40 * k + i)) (dgL sz ld h k) (sz k)
def digV (cnt : Nat → Int32) (th : Nat → Int32) (g : Nat → Nat → Int32) (P : Nat → Nat → Int32) (pn : Nat) (sz : Nat → Nat) (ld mt mr : Nat → Int32) (mn : Nat) : Int64 :=
  dgI (fun k => whereV mt mr mn (k / 3) (k % 3)) (dgL sz ld (dgP P (dgR th g (dgI cnt 17 6) 4) pn) 2) 12
