theorem goes_all (l : Launch) (G : va_G) (d : Nat → Nat) (a : Nat → Nat) (S : Nat → Nat → Option Nat) (lm : Int32 × Nat × Int32) (LP : List Nat) (fp : Nat → va_E) (P : Nat → Nat → Int32) (n T : Nat) (hd wt : Int32) (hn16 : n ≤ 16) (hT : T ≤ 20000) (hpt : partsIn S P LP fp (a 0) n) (hcut : ∀ p, p < n → ¬ P 0 p = 4 → P 6 p = 0) (dd : Nat) : goesC l G d a S lm LP fp P n T hd wt dd := by
  induction dd with
  | zero =>
    intro sz I F k r g u0 kn hv cv pv hk h1 h2 h3 h4 h5 h6 h7
    exact metX0_goes0 l G d sz a I F S lm LP fp P n T k hd wt r g u0 (some g) kn hv cv pv hn16 hT h1 h2 hpt hcut hk h3 h4 h5 h6 h7 rfl
  | succ dd ih =>
    intro sz I F k r g u0 kn hv cv pv hk h1 h2 h3 h4 h5 h6 h7
    exact metX0_goesS l G d sz a I F S lm LP fp P n T k hd wt r g dd u0 _ kn hv cv pv hn16 hT h1 h2 hpt hcut hk h3 h4 h5 h6 h7 rfl ih
