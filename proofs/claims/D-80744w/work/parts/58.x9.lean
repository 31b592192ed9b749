set_option maxHeartbeats 400000 in
set_option maxRecDepth 100000 in
theorem metX0_goes0 (l : Launch) (G : va_G) (d : Nat → Nat) (sz : Nat) (a : Nat → Nat) (I : Nat → Int32) (F : Nat → Nat → Int32) (S : Nat → Nat → Option Nat) (lm : Int32 × Nat × Int32) (LP : List Nat) (fp : Nat → va_E) (P : Nat → Nat → Int32) (n T k : Nat) (hd wt : Int32) (r : Nat → Nat) (g : GS) (u0 : MS) (RR : Option GS) (kn hv cv pv : Int32) (hn16 : n ≤ 16) (hT : T ≤ 20000) (hLW : LW n T hd wt k r g (I, F)) (hpath : pathOK P n k r) (hpt : partsIn S P LP fp (a 0) n) (hcut : ∀ p, p < n → ¬ P 0 p = 4 → P 6 p = 0) (hkd : k + 0 = 16) (hu0 : FRL u0 (I, F)) (hkn : kn = bI (∃ i, i < k ∧ P 0 (r i) = 2)) (hhv : hv = hiV P r k) (hcv : cv = cuV P r k) (hpv : pv = prV P r k) (hRR : legF P hd wt T n 0 k r g = RR) : Met l yX0_goesOn (ws_ yX0_goesOn cX0_goesOn 7 none) ({ frames := 3, cells := 0, slots := 0, locals := 68 } : Room) (va_Pc [.ref (a 0), .int (nI k), .int kn, .int hv, .int cv, .int pv] (pE G d sz (XW a I F S lm LP fp d) (KI))) (va_Qv (fun (u : MS) => FRL u0 u ∧ LR n T hd wt k r RR u) (fun (u : MS) t => bW G d (va_A (XW a I F S lm LP fp d) sz) (XW a u.1 u.2 S lm LP fp d) t) (va_A (XW a I F S lm LP fp d) sz)) 0 0 (va_A (XW a I F S lm LP fp d) sz) := by
  refine Met.ofW (cc := cX0_goesOn) (maxL := 7) (ret := none) (by decide) rfl ?_
  intro p e s m args below meth c s₁ B hml hv
  obtain ⟨rfl, hsz, hP, hK, hD0, hE⟩ := hv
  have hI : KI s := hE
  have hx := B.exec
  have hb := B.bytes
  have hr := B.returns
  have hts := atoms_spec (ws := (ws_ yX0_goesOn cX0_goesOn 7 none)) B.pre
  have hts : ∀ w ∈ lw_all, w.before _ s = true := fun w h => hts w (List.mem_cons_of_mem _ h)
  have hown : s.vm.findClass RX0 = some m.cls := findClass_of_methodNamed B.named
  have hlocks := B.notSynchronized
  subst hsz
  have hD := hD0.self (sz := s.heap.size)
  generalize hAe : va_A (XW a I F S lm LP fp d) s.heap.size = A at hD ⊢
  have hA : ∀ q : Nat, s.heap.size ≤ q → A q := fun q h => by rw [← hAe]; exact Or.inr h
  have hS : va_S A s.heap s.heap [] := va_S.rf
  have hl := lv_entry ([.ref (a 0), .int (nI k), .int kn, .int hv, .int cv, .int pv]) (n := 7) (Nat.le_of_ble_eq_true rfl)
  rw [lg_entry_eq]
  generalize (lg_sl ([.ref (a 0), .int (nI k), .int kn, .int hv, .int cv, .int pv]) ++ List.replicate (7 - (lg_sl ([.ref (a 0), .int (nI k), .int kn, .int hv, .int cv, .int pv])).length) Slot.unset).toArray = ls at hl ⊢
  have hl : lv_has ls 7 [(0, .ref (a 0)), (1, .int (nI k)), (2, .int kn), (3, .int hv), (4, .int cv), (5, .int pv)] := hl
  have hP : va_P G CLS (XW a I F S lm LP fp d) s.heap := hP
  refine lv_iconst (v := 0) hx hb dX0_goesOn_0 (by decide) ?_
  refine lv_istore (lv' := [(6, .int 0), (0, .ref (a 0)), (1, .int (nI k)), (2, .int kn), (3, .int hv), (4, .int cv), (5, .int pv)]) hx hb dX0_goesOn_1 hl (Nat.le_of_ble_eq_true rfl) rfl (fun ls hl => ?_)
  have h16 : k = 16 := by omega
  have lp_1 : ∀ (fu : Nat) (pp : Nat) (I : Nat → Int32) (F : Nat → Nat → Int32) (g : GS) (hi : pp ≤ n) (hm : n < pp + fu) (hLW : LW n T hd wt k r g (I, F)) (hu0 : FRL u0 (I, F)) (hR : RR = some g) (H : Heap) (locs : List Loc) (hP : va_P G CLS (XW a I F S lm LP fp d) H) (hD : va_D A (XW a I F S lm LP fp d)) (hS : va_S A s.heap H locs) (ls : Array Slot) (hl : lv_has ls 7 [(6, .int (nI pp)), (0, .ref (a 0)), (1, .int (nI k)), (2, .int kn), (3, .int hv), (4, .int cv), (5, .int pv)]), W p l e (headSpec (ws_ yX0_goesOn cX0_goesOn 7 none) ({ frames := 3, cells := 0, slots := 0, locals := 68 } : Room)).room s m ([.ref (a 0), .int (nI k), .int kn, .int hv, .int cv, .int pv] : List Value).toArray below meth c H locs 0 0 (MQ below (va_Qv (fun (u : MS) => FRL u0 u ∧ LR n T hd wt k r RR u) (fun (u : MS) t => bW G d A (XW a u.1 u.2 S lm LP fp d) t) A) ([.ref (a 0), .int (nI k), .int kn, .int hv, .int cv, .int pv] : List Value).toArray s 0 0 A) (F0 m 3 ls []) := by
    intro fu
    induction fu with
    | zero =>
      intro pp I F g hi hm hLW hu0 hR H locs hP hD hS ls hl
      exfalso; omega
    | succ fu ih_lp_1 =>
      intro pp I F g hi hm hLW hu0 hR H locs hP hD hS ls hl
      have hgT : g.1 ≤ T := hLW.2.2.2.2.2.2
      refine lv_iload hx hb dX0_goesOn_3 (lv_at hl 0 rfl) ?_
      refine lv_aload_n hx hb dX0_goesOn_5 rfl (lv_at hl 1 rfl) ?_
      refine va_get (D := G) (ci := 0) (v := .int (I 12)) (C := RX0) (T := TX0) (N := 29) hx hb hts in_X0 hown hK hP 0 rfl rfl 12 (Nat.le_of_ble_eq_true rfl) (hts _ q121) (fun _ h9 => h9) rfl dX0_goesOn_6 ?_
      refine y_top (y := nI n) hLW.1.1 ?_
      refine lv_icmp_ge (tgt := 89) hx hb dX0_goesOn_9 (by decide) (fun c_2 => ?_) (fun c_2 => ?_)
      · have c_2 : n ≤ pp := (nI_leI (a := n) (b := pp) (by omega) (by omega)).mp c_2
        exact W.vret hx hb hr (fun t ht hW => ⟨⟨(I, F), rfl, ⟨hu0, by rw [hR]; exact hLW⟩, by rw [ht]; exact hP, va_K.moved hW.alike hK, hD⟩, hS.F ht⟩) hS.2.2 dX0_goesOn_89
      · have c_2 : ¬ n ≤ pp := fun h => c_2 ((nI_leI (a := n) (b := pp) (by omega) (by omega)).mpr h)
        refine lv_aload_n hx hb dX0_goesOn_12 rfl (lv_at hl 1 rfl) ?_
        refine va_get (D := G) (ci := 0) (v := .int (I 19)) (C := RX0) (T := TX0) (N := 29) hx hb hts in_X0 hown hK hP 0 rfl rfl 19 (Nat.le_of_ble_eq_true rfl) (hts _ q128) (fun _ h9 => h9) rfl dX0_goesOn_13 ?_
        refine y_top (y := 0) hLW.2.1.2.1 ?_
        refine lv_if_ne (tgt := 89) hx hb dX0_goesOn_16 (by decide) (fun c_3 => ?_) (fun c_3 => ?_)
        · exact absurd c_3 (by decide)
        · refine lv_aload_n hx hb dX0_goesOn_19 rfl (lv_at hl 1 rfl) ?_
          refine lv_iload hx hb dX0_goesOn_20 (lv_at hl 0 rfl) ?_
          refine lv_iload_n hx hb dX0_goesOn_22 rfl (lv_at hl 2 rfl) ?_
          refine lv_iload_n hx hb dX0_goesOn_23 rfl (lv_at hl 3 rfl) ?_
          refine lv_iload_n hx hb dX0_goesOn_24 rfl (lv_at hl 4 rfl) ?_
          refine lv_iload hx hb dX0_goesOn_25 (lv_at hl 5 rfl) ?_
          refine y_rVE (As := [.int (nI pp), .int (nI k), .int kn, .int hv, .int cv]) (rest := []) (ci := 0) (q0 := 0) (fun u U hvm h => KI.moved hvm h) hI ⟨hx, hb, hml, hown, hts⟩ hK hP (metX0_mayCome l G d a I F S lm LP fp P n T k hd wt r g pp kn hv cv hn16 hT hLW hpath hpt hcut (by omega) (by omega) hkn hhv hcv) (cwV 5 hts (lw_V q635 q637 qs7 q35 q638) rfl rfl rfl (by decide +kernel) ⟨Nat.le_of_ble_eq_true rfl, Nat.le_of_ble_eq_true rfl⟩) rfl rfl rfl hl.1 rfl (lv_room (Nat.le_of_ble_eq_true rfl)) dX0_goesOn_27 ⟨Nat.le_of_ble_eq_true rfl, Nat.le_of_ble_eq_true rfl⟩ (fun x9 hx9 => ?_)
          refine lv_if_eq (tgt := 83) hx hb dX0_goesOn_30 (by decide) (fun c_4 => ?_) (fun c_4 => ?_)
          · have c_4 := bI_eq hx9 c_4
            refine lv_iinc (v := nI (pp + 1)) (lv' := [(6, .int (nI (pp + 1))), (0, .ref (a 0)), (1, .int (nI k)), (2, .int kn), (3, .int hv), (4, .int cv), (5, .int pv)]) hx hb dX0_goesOn_83 hl (k := 0) rfl (nI_add pp 1) (Nat.le_of_ble_eq_true rfl) rfl (fun ls hl => ?_)
            refine lv_goto (tgt := 3) hx hb dX0_goesOn_86 (by decide) ?_
            exact ih_lp_1 (pp + 1) I F g (by omega) (by omega) hLW hu0 hR _ _ hP hD hS ls (lv_sub hl [0, 1, 2, 3, 4, 5, 6] rfl)
          · have c_4 := bI_ne hx9 c_4
            exact absurd c_4 (by rw [h16]; exact may_16 (by rw [← h16]; exact hpath) hn16 (by omega))
  exact lp_1 17 0 I F g (by omega) (by omega) hLW hu0 hRR.symm _ _ hP hD hS ls (lv_sub hl [0, 1, 2, 3, 4, 5, 6] rfl)
set_option maxHeartbeats 400000 in
set_option maxRecDepth 100000 in
theorem metX0_goesS (l : Launch) (G : va_G) (d : Nat → Nat) (sz : Nat) (a : Nat → Nat) (I : Nat → Int32) (F : Nat → Nat → Int32) (S : Nat → Nat → Option Nat) (lm : Int32 × Nat × Int32) (LP : List Nat) (fp : Nat → va_E) (P : Nat → Nat → Int32) (n T k : Nat) (hd wt : Int32) (r : Nat → Nat) (g : GS) (dd : Nat) (u0 : MS) (RR : Option GS) (kn hv cv pv : Int32) (hn16 : n ≤ 16) (hT : T ≤ 20000) (hLW : LW n T hd wt k r g (I, F)) (hpath : pathOK P n k r) (hpt : partsIn S P LP fp (a 0) n) (hcut : ∀ p, p < n → ¬ P 0 p = 4 → P 6 p = 0) (hkd : k + (dd + 1) = 16) (hu0 : FRL u0 (I, F)) (hkn : kn = bI (∃ i, i < k ∧ P 0 (r i) = 2)) (hhv : hv = hiV P r k) (hcv : cv = cuV P r k) (hpv : pv = prV P r k) (hRR : legF P hd wt T n (dd + 1) k r g = RR) (hG : goesC l G d a S lm LP fp P n T hd wt dd) : Met l yX0_goesOn (ws_ yX0_goesOn cX0_goesOn 7 none) ({ frames := 2 * (dd + 1) + 3, cells := 0, slots := 0, locals := 54 * (dd + 1) + 68 } : Room) (va_Pc [.ref (a 0), .int (nI k), .int kn, .int hv, .int cv, .int pv] (pE G d sz (XW a I F S lm LP fp d) (KI))) (va_Qv (fun (u : MS) => FRL u0 u ∧ LR n T hd wt k r RR u) (fun (u : MS) t => bW G d (va_A (XW a I F S lm LP fp d) sz) (XW a u.1 u.2 S lm LP fp d) t) (va_A (XW a I F S lm LP fp d) sz)) 0 0 (va_A (XW a I F S lm LP fp d) sz) := by
  refine Met.ofW (cc := cX0_goesOn) (maxL := 7) (ret := none) (by decide) rfl ?_
  intro p e s m args below meth c s₁ B hml hv
  obtain ⟨rfl, hsz, hP, hK, hD0, hE⟩ := hv
  have hI : KI s := hE
  have hx := B.exec
  have hb := B.bytes
  have hr := B.returns
  have hts := atoms_spec (ws := (ws_ yX0_goesOn cX0_goesOn 7 none)) B.pre
  have hts : ∀ w ∈ lw_all, w.before _ s = true := fun w h => hts w (List.mem_cons_of_mem _ h)
  have hown : s.vm.findClass RX0 = some m.cls := findClass_of_methodNamed B.named
  have hlocks := B.notSynchronized
  subst hsz
  have hD := hD0.self (sz := s.heap.size)
  generalize hAe : va_A (XW a I F S lm LP fp d) s.heap.size = A at hD ⊢
  have hA : ∀ q : Nat, s.heap.size ≤ q → A q := fun q h => by rw [← hAe]; exact Or.inr h
  have hS : va_S A s.heap s.heap [] := va_S.rf
  have hl := lv_entry ([.ref (a 0), .int (nI k), .int kn, .int hv, .int cv, .int pv]) (n := 7) (Nat.le_of_ble_eq_true rfl)
  rw [lg_entry_eq]
  generalize (lg_sl ([.ref (a 0), .int (nI k), .int kn, .int hv, .int cv, .int pv]) ++ List.replicate (7 - (lg_sl ([.ref (a 0), .int (nI k), .int kn, .int hv, .int cv, .int pv])).length) Slot.unset).toArray = ls at hl ⊢
  have hl : lv_has ls 7 [(0, .ref (a 0)), (1, .int (nI k)), (2, .int kn), (3, .int hv), (4, .int cv), (5, .int pv)] := hl
  have hP : va_P G CLS (XW a I F S lm LP fp d) s.heap := hP
  refine lv_iconst (v := 0) hx hb dX0_goesOn_0 (by decide) ?_
  refine lv_istore (lv' := [(6, .int 0), (0, .ref (a 0)), (1, .int (nI k)), (2, .int kn), (3, .int hv), (4, .int cv), (5, .int pv)]) hx hb dX0_goesOn_1 hl (Nat.le_of_ble_eq_true rfl) rfl (fun ls hl => ?_)
  have lp_1 : ∀ (fu : Nat) (pp : Nat) (I : Nat → Int32) (F : Nat → Nat → Int32) (g : GS) (hi : pp ≤ n) (hm : n < pp + fu) (hLW : LW n T hd wt k r g (I, F)) (hu0 : FRL u0 (I, F)) (hR : foldF (stepF P hd wt T k r (legF P hd wt T n dd (k + 1))) pp (n - pp) g = RR) (H : Heap) (locs : List Loc) (hP : va_P G CLS (XW a I F S lm LP fp d) H) (hD : va_D A (XW a I F S lm LP fp d)) (hS : va_S A s.heap H locs) (ls : Array Slot) (hl : lv_has ls 7 [(6, .int (nI pp)), (0, .ref (a 0)), (1, .int (nI k)), (2, .int kn), (3, .int hv), (4, .int cv), (5, .int pv)]), W p l e (headSpec (ws_ yX0_goesOn cX0_goesOn 7 none) ({ frames := 2 * (dd + 1) + 3, cells := 0, slots := 0, locals := 54 * (dd + 1) + 68 } : Room)).room s m ([.ref (a 0), .int (nI k), .int kn, .int hv, .int cv, .int pv] : List Value).toArray below meth c H locs 0 0 (MQ below (va_Qv (fun (u : MS) => FRL u0 u ∧ LR n T hd wt k r RR u) (fun (u : MS) t => bW G d A (XW a u.1 u.2 S lm LP fp d) t) A) ([.ref (a 0), .int (nI k), .int kn, .int hv, .int cv, .int pv] : List Value).toArray s 0 0 A) (F0 m 3 ls []) := by
    intro fu
    induction fu with
    | zero =>
      intro pp I F g hi hm hLW hu0 hR H locs hP hD hS ls hl
      exfalso; omega
    | succ fu ih_lp_1 =>
      intro pp I F g hi hm hLW hu0 hR H locs hP hD hS ls hl
      have hgT : g.1 ≤ T := hLW.2.2.2.2.2.2
      refine lv_iload hx hb dX0_goesOn_3 (lv_at hl 0 rfl) ?_
      refine lv_aload_n hx hb dX0_goesOn_5 rfl (lv_at hl 1 rfl) ?_
      refine va_get (D := G) (ci := 0) (v := .int (I 12)) (C := RX0) (T := TX0) (N := 29) hx hb hts in_X0 hown hK hP 0 rfl rfl 12 (Nat.le_of_ble_eq_true rfl) (hts _ q121) (fun _ h9 => h9) rfl dX0_goesOn_6 ?_
      refine y_top (y := nI n) hLW.1.1 ?_
      refine lv_icmp_ge (tgt := 89) hx hb dX0_goesOn_9 (by decide) (fun c_2 => ?_) (fun c_2 => ?_)
      · have c_2 : n ≤ pp := (nI_leI (a := n) (b := pp) (by omega) (by omega)).mp c_2
        exact W.vret hx hb hr (fun t ht hW => ⟨⟨(I, F), rfl, ⟨hu0, by rw [← hR, show n - pp = 0 by omega]; exact hLW⟩, by rw [ht]; exact hP, va_K.moved hW.alike hK, hD⟩, hS.F ht⟩) hS.2.2 dX0_goesOn_89
      · have c_2 : ¬ n ≤ pp := fun h => c_2 ((nI_leI (a := n) (b := pp) (by omega) (by omega)).mpr h)
        refine lv_aload_n hx hb dX0_goesOn_12 rfl (lv_at hl 1 rfl) ?_
        refine va_get (D := G) (ci := 0) (v := .int (I 19)) (C := RX0) (T := TX0) (N := 29) hx hb hts in_X0 hown hK hP 0 rfl rfl 19 (Nat.le_of_ble_eq_true rfl) (hts _ q128) (fun _ h9 => h9) rfl dX0_goesOn_13 ?_
        refine y_top (y := 0) hLW.2.1.2.1 ?_
        refine lv_if_ne (tgt := 89) hx hb dX0_goesOn_16 (by decide) (fun c_3 => ?_) (fun c_3 => ?_)
        · exact absurd c_3 (by decide)
        · refine lv_aload_n hx hb dX0_goesOn_19 rfl (lv_at hl 1 rfl) ?_
          refine lv_iload hx hb dX0_goesOn_20 (lv_at hl 0 rfl) ?_
          refine lv_iload_n hx hb dX0_goesOn_22 rfl (lv_at hl 2 rfl) ?_
          refine lv_iload_n hx hb dX0_goesOn_23 rfl (lv_at hl 3 rfl) ?_
          refine lv_iload_n hx hb dX0_goesOn_24 rfl (lv_at hl 4 rfl) ?_
          refine lv_iload hx hb dX0_goesOn_25 (lv_at hl 5 rfl) ?_
          refine y_rVE (As := [.int (nI pp), .int (nI k), .int kn, .int hv, .int cv]) (rest := []) (ci := 0) (q0 := 0) (fun u U hvm h => KI.moved hvm h) hI ⟨hx, hb, hml, hown, hts⟩ hK hP (metX0_mayCome l G d a I F S lm LP fp P n T k hd wt r g pp kn hv cv hn16 hT hLW hpath hpt hcut (by omega) (by omega) hkn hhv hcv) (cwV 5 hts (lw_V q635 q637 qs7 q35 q638) rfl rfl rfl (by decide +kernel) ⟨(by show 2 + 1 ≤ 2 * (dd + 1) + 3; omega), (by show 8 + (9 + 11) + 40 ≤ 54 * (dd + 1) + 68; omega)⟩) rfl rfl rfl hl.1 rfl (lv_room (Nat.le_of_ble_eq_true rfl)) dX0_goesOn_27 ⟨Nat.le_of_ble_eq_true rfl, Nat.le_of_ble_eq_true rfl⟩ (fun x9 hx9 => ?_)
          refine lv_if_eq (tgt := 83) hx hb dX0_goesOn_30 (by decide) (fun c_4 => ?_) (fun c_4 => ?_)
          · have c_4 := bI_eq hx9 c_4
            refine lv_iinc (v := nI (pp + 1)) (lv' := [(6, .int (nI (pp + 1))), (0, .ref (a 0)), (1, .int (nI k)), (2, .int kn), (3, .int hv), (4, .int cv), (5, .int pv)]) hx hb dX0_goesOn_83 hl (k := 0) rfl (nI_add pp 1) (Nat.le_of_ble_eq_true rfl) rfl (fun ls hl => ?_)
            refine lv_goto (tgt := 3) hx hb dX0_goesOn_86 (by decide) ?_
            exact ih_lp_1 (pp + 1) I F g (by omega) (by omega) hLW hu0 (by rw [← hR, fold_at (p := pp) (by omega), stepF, if_neg c_4]; rfl) _ _ hP hD hS ls (lv_sub hl [0, 1, 2, 3, 4, 5, 6] rfl)
          · have c_4 := bI_ne hx9 c_4
            refine lv_aload_n hx hb dX0_goesOn_33 rfl (lv_at hl 1 rfl) ?_
            refine lv_aload_n hx hb dX0_goesOn_34 rfl (lv_at hl 1 rfl) ?_
            refine va_get (D := G) (ci := 0) (v := .int (I 17)) (C := RX0) (T := TX0) (N := 29) hx hb hts in_X0 hown hK hP 0 rfl rfl 17 (Nat.le_of_ble_eq_true rfl) (hts _ q126) (fun _ h9 => h9) rfl dX0_goesOn_35 ?_
            refine y_top (y := nI g.1) hLW.2.1.1 ?_
            refine lv_aload_n hx hb dX0_goesOn_38 rfl (lv_at hl 1 rfl) ?_
            refine va_get (D := G) (ci := 0) (v := .int (I 18)) (C := RX0) (T := TX0) (N := 29) hx hb hts in_X0 hown hK hP 0 rfl rfl 18 (Nat.le_of_ble_eq_true rfl) (hts _ q127) (fun _ h9 => h9) rfl dX0_goesOn_39 ?_
            refine y_top (y := nI T) hLW.1.2.2.2 ?_
            refine lv_icmp_ne (tgt := 49) hx hb dX0_goesOn_42 (by decide) (fun c_5 => ?_) (fun c_5 => ?_)
            · have c_5 : ¬ g.1 = T := fun h => c_5 ((nI_eq (a := g.1) (b := T) (by omega) (by omega)).mpr h)
              refine lv_iconst (v := 0) hx hb dX0_goesOn_49 (by decide) ?_
              refine va_put (D := G) (ci := 0) (v := .int 0) (ty := .boolean) (C := RX0) (T := TX0) (N := 29) hx hb hts in_X0 tyX0 tyX0_ok nmX0 hown hK hP hD hS 0 rfl rfl 19 (Nat.le_of_ble_eq_true rfl) (hts _ q128) (fun _ h9 => h9) rfl (by decide +kernel) rfl rfl (Nat.le_of_ble_eq_true rfl) dX0_goesOn_50 (fun H locs hP hD hS => ?_)
              have hP : va_P G CLS (XW a (upd I 19 0) F S lm LP fp d) H := hP
              have hD : va_D A (XW a (upd I 19 0) F S lm LP fp d) := hD
              refine lv_aload_n hx hb dX0_goesOn_53 rfl (lv_at hl 1 rfl) ?_
              refine va_get (D := G) (ci := 0) (v := .int 0) (C := RX0) (T := TX0) (N := 29) hx hb hts in_X0 hown hK hP 0 rfl rfl 19 (Nat.le_of_ble_eq_true rfl) (hts _ q128) (fun _ h9 => h9) rfl dX0_goesOn_54 ?_
              refine lv_if_ne (tgt := 83) hx hb dX0_goesOn_57 (by decide) (fun c_6 => ?_) (fun c_6 => ?_)
              · exact absurd c_6 (by decide)
              · refine lv_aload_n hx hb dX0_goesOn_60 rfl (lv_at hl 1 rfl) ?_
                refine lv_dup hx hb dX0_goesOn_61 rfl ?_
                refine va_get (D := G) (ci := 0) (v := .int (I 17)) (C := RX0) (T := TX0) (N := 29) hx hb hts in_X0 hown hK hP 0 rfl rfl 17 (Nat.le_of_ble_eq_true rfl) (hts _ q126) (fun _ h9 => h9) rfl dX0_goesOn_62 ?_
                refine y_top (y := nI g.1) hLW.2.1.1 ?_
                refine lv_iconst (v := 1) hx hb dX0_goesOn_65 (by decide) ?_
                refine lv_iadd hx hb dX0_goesOn_66 ?_
                refine y_top (y := nI (g.1 + 1)) (nI_add g.1 1) ?_
                refine va_put (D := G) (ci := 0) (v := .int (nI (g.1 + 1))) (ty := .int) (C := RX0) (T := TX0) (N := 29) hx hb hts in_X0 tyX0 tyX0_ok nmX0 hown hK hP hD hS 0 rfl rfl 17 (Nat.le_of_ble_eq_true rfl) (hts _ q126) (fun _ h9 => h9) rfl (by decide +kernel) rfl rfl (Nat.le_of_ble_eq_true rfl) dX0_goesOn_67 (fun H locs hP hD hS => ?_)
                have hP : va_P G CLS (XW a (upd (upd I 19 0) 17 (nI (g.1 + 1))) F S lm LP fp d) H := hP
                have hD : va_D A (XW a (upd (upd I 19 0) 17 (nI (g.1 + 1))) F S lm LP fp d) := hD
                refine lv_aload_n hx hb dX0_goesOn_70 rfl (lv_at hl 1 rfl) ?_
                refine lv_iload hx hb dX0_goesOn_71 (lv_at hl 0 rfl) ?_
                refine lv_iload_n hx hb dX0_goesOn_73 rfl (lv_at hl 2 rfl) ?_
                refine lv_iload_n hx hb dX0_goesOn_74 rfl (lv_at hl 3 rfl) ?_
                refine lv_iload_n hx hb dX0_goesOn_75 rfl (lv_at hl 4 rfl) ?_
                refine lv_iload hx hb dX0_goesOn_76 (lv_at hl 5 rfl) ?_
                refine lv_iload hx hb dX0_goesOn_78 (lv_at hl 6 rfl) ?_
                have hL2 := LW_try hLW c_5
                refine y_cVvE (As := [.int (nI pp), .int (nI k), .int kn, .int hv, .int cv, .int pv]) (rest := []) (ci := 0) (q0 := 0) (fun u U hvm h => KI.moved hvm h) hI ⟨hx, hb, hml, hown, hts⟩ hK hP hD hS hA (metX0_comes l G d H.size a (upd (upd I 19 0) 17 (nI (g.1 + 1))) F S lm LP fp P n T k hd wt r (g.1 + 1, g.2) dd u0 pp kn hv cv pv hn16 hL2.1 hpath hpt hcut (by omega) (by omega) hkn hhv hcv hpv c_4 (hu0.tr hL2.2) hG) (cwV 6 hts (lw_V q658 q660 qs8 q35 q661) rfl rfl rfl (by decide +kernel) ⟨(by show 2 * dd + 4 + 1 ≤ 2 * (dd + 1) + 3; omega), (by show 8 + (9 + 11) + (54 * dd + 94) ≤ 54 * (dd + 1) + 68; omega)⟩) rfl rfl rfl hl.1 rfl (lv_room (Nat.le_of_ble_eq_true rfl)) dX0_goesOn_80 ⟨Nat.le_of_ble_eq_true rfl, Nat.le_of_ble_eq_true rfl⟩ (fun u_9 H locs hw9 hP hD hS => ?_)
                obtain ⟨hw8, hw9⟩ := hw9
                have hst : (stepF P hd wt T k r (legF P hd wt T n dd (k + 1))) pp g = (if P 0 pp = 3 then some (endS P hd (va_up r k pp) (k + 1) (g.1 + 1, g.2)) else legF P hd wt T n dd (k + 1) (va_up r k pp) (g.1 + 1, g.2)) := by rw [stepF, if_pos c_4, if_neg c_5]
                rw [← hst] at hw9
                rcases hro : (stepF P hd wt T k r (legF P hd wt T n dd (k + 1))) pp g with _ | g2
                · rw [hro] at hw9
                  have hsp : LR n T hd wt k r RR u_9 := by
                    rw [← hR, fold_at (p := pp) (by omega), hro]
                    exact hw9
                  refine lv_iinc (v := nI (pp + 1)) (lv' := [(6, .int (nI (pp + 1))), (0, .ref (a 0)), (1, .int (nI k)), (2, .int kn), (3, .int hv), (4, .int cv), (5, .int pv)]) hx hb dX0_goesOn_83 hl (k := 0) rfl (nI_add pp 1) (Nat.le_of_ble_eq_true rfl) rfl (fun ls hl => ?_)
                  refine lv_goto (tgt := 3) hx hb dX0_goesOn_86 (by decide) ?_
                  refine lv_iload hx hb dX0_goesOn_3 (lv_at hl 0 rfl) ?_
                  refine lv_aload_n hx hb dX0_goesOn_5 rfl (lv_at hl 1 rfl) ?_
                  refine va_get (D := G) (ci := 0) (v := .int (u_9.1 12)) (C := RX0) (T := TX0) (N := 29) hx hb hts in_X0 hown hK hP 0 rfl rfl 12 (Nat.le_of_ble_eq_true rfl) (hts _ q121) (fun _ h9 => h9) rfl dX0_goesOn_6 ?_
                  refine lv_icmp_ge (tgt := 89) hx hb dX0_goesOn_9 (by decide) (fun c_7 => ?_) (fun c_7 => ?_)
                  · exact W.vret hx hb hr (fun t ht hW => ⟨⟨(u_9.1, u_9.2), rfl, ⟨hw8, hsp⟩, by rw [ht]; exact hP, va_K.moved hW.alike hK, hD⟩, hS.F ht⟩) hS.2.2 dX0_goesOn_89
                  · refine lv_aload_n hx hb dX0_goesOn_12 rfl (lv_at hl 1 rfl) ?_
                    refine va_get (D := G) (ci := 0) (v := .int (u_9.1 19)) (C := RX0) (T := TX0) (N := 29) hx hb hts in_X0 hown hK hP 0 rfl rfl 19 (Nat.le_of_ble_eq_true rfl) (hts _ q128) (fun _ h9 => h9) rfl dX0_goesOn_13 ?_
                    refine lv_if_ne (tgt := 89) hx hb dX0_goesOn_16 (by decide) (fun c_8 => ?_) (fun c_8 => ?_)
                    · exact W.vret hx hb hr (fun t ht hW => ⟨⟨(u_9.1, u_9.2), rfl, ⟨hw8, hsp⟩, by rw [ht]; exact hP, va_K.moved hW.alike hK, hD⟩, hS.F ht⟩) hS.2.2 dX0_goesOn_89
                    · exact absurd (hw9.2.1.symm.trans c_8) (by decide)
                · rw [hro] at hw9
                  refine lv_iinc (v := nI (pp + 1)) (lv' := [(6, .int (nI (pp + 1))), (0, .ref (a 0)), (1, .int (nI k)), (2, .int kn), (3, .int hv), (4, .int cv), (5, .int pv)]) hx hb dX0_goesOn_83 hl (k := 0) rfl (nI_add pp 1) (Nat.le_of_ble_eq_true rfl) rfl (fun ls hl => ?_)
                  refine lv_goto (tgt := 3) hx hb dX0_goesOn_86 (by decide) ?_
                  exact ih_lp_1 (pp + 1) u_9.1 u_9.2 g2 (by omega) (by omega) hw9 hw8 (by rw [← hR, fold_at (p := pp) (by omega), hro]; rfl) _ _ hP hD hS ls (lv_sub hl [0, 1, 2, 3, 4, 5, 6] rfl)
            · have c_5 : g.1 = T := (nI_eq (a := g.1) (b := T) (by omega) (by omega)).mp c_5
              refine lv_iconst (v := 1) hx hb dX0_goesOn_45 (by decide) ?_
              refine lv_goto (tgt := 50) hx hb dX0_goesOn_46 (by decide) ?_
              refine va_put (D := G) (ci := 0) (v := .int 1) (ty := .boolean) (C := RX0) (T := TX0) (N := 29) hx hb hts in_X0 tyX0 tyX0_ok nmX0 hown hK hP hD hS 0 rfl rfl 19 (Nat.le_of_ble_eq_true rfl) (hts _ q128) (fun _ h9 => h9) rfl (by decide +kernel) rfl rfl (Nat.le_of_ble_eq_true rfl) dX0_goesOn_50 (fun H locs hP hD hS => ?_)
              have hP : va_P G CLS (XW a (upd I 19 1) F S lm LP fp d) H := hP
              have hD : va_D A (XW a (upd I 19 1) F S lm LP fp d) := hD
              refine lv_aload_n hx hb dX0_goesOn_53 rfl (lv_at hl 1 rfl) ?_
              refine va_get (D := G) (ci := 0) (v := .int 1) (C := RX0) (T := TX0) (N := 29) hx hb hts in_X0 hown hK hP 0 rfl rfl 19 (Nat.le_of_ble_eq_true rfl) (hts _ q128) (fun _ h9 => h9) rfl dX0_goesOn_54 ?_
              refine lv_if_ne (tgt := 83) hx hb dX0_goesOn_57 (by decide) (fun c_9 => ?_) (fun c_9 => ?_)
              · have hsp : LR n T hd wt k r RR (upd I 19 1, F) := by
                  rw [← hR, fold_at (p := pp) (by omega), stepF, if_pos c_4, if_pos c_5]
                  exact ⟨hLW.1.1, rfl, by rw [← c_5]; exact hLW.2.1.1⟩
                have hsf : FRL u0 (upd I 19 1, F) := FRL_19 hu0
                refine lv_iinc (v := nI (pp + 1)) (lv' := [(6, .int (nI (pp + 1))), (0, .ref (a 0)), (1, .int (nI k)), (2, .int kn), (3, .int hv), (4, .int cv), (5, .int pv)]) hx hb dX0_goesOn_83 hl (k := 0) rfl (nI_add pp 1) (Nat.le_of_ble_eq_true rfl) rfl (fun ls hl => ?_)
                refine lv_goto (tgt := 3) hx hb dX0_goesOn_86 (by decide) ?_
                refine lv_iload hx hb dX0_goesOn_3 (lv_at hl 0 rfl) ?_
                refine lv_aload_n hx hb dX0_goesOn_5 rfl (lv_at hl 1 rfl) ?_
                refine va_get (D := G) (ci := 0) (v := .int (I 12)) (C := RX0) (T := TX0) (N := 29) hx hb hts in_X0 hown hK hP 0 rfl rfl 12 (Nat.le_of_ble_eq_true rfl) (hts _ q121) (fun _ h9 => h9) rfl dX0_goesOn_6 ?_
                refine y_top (y := nI n) hLW.1.1 ?_
                refine lv_icmp_ge (tgt := 89) hx hb dX0_goesOn_9 (by decide) (fun c_10 => ?_) (fun c_10 => ?_)
                · have c_10 : n ≤ (pp + 1) := (nI_leI (a := n) (b := (pp + 1)) (by omega) (by omega)).mp c_10
                  exact W.vret hx hb hr (fun t ht hW => ⟨⟨(upd I 19 1, F), rfl, ⟨hsf, hsp⟩, by rw [ht]; exact hP, va_K.moved hW.alike hK, hD⟩, hS.F ht⟩) hS.2.2 dX0_goesOn_89
                · have c_10 : ¬ n ≤ (pp + 1) := fun h => c_10 ((nI_leI (a := n) (b := (pp + 1)) (by omega) (by omega)).mpr h)
                  refine lv_aload_n hx hb dX0_goesOn_12 rfl (lv_at hl 1 rfl) ?_
                  refine va_get (D := G) (ci := 0) (v := .int 1) (C := RX0) (T := TX0) (N := 29) hx hb hts in_X0 hown hK hP 0 rfl rfl 19 (Nat.le_of_ble_eq_true rfl) (hts _ q128) (fun _ h9 => h9) rfl dX0_goesOn_13 ?_
                  refine lv_if_ne (tgt := 89) hx hb dX0_goesOn_16 (by decide) (fun c_11 => ?_) (fun c_11 => ?_)
                  · exact W.vret hx hb hr (fun t ht hW => ⟨⟨(upd I 19 1, F), rfl, ⟨hsf, hsp⟩, by rw [ht]; exact hP, va_K.moved hW.alike hK, hD⟩, hS.F ht⟩) hS.2.2 dX0_goesOn_89
                  · exact absurd c_11 (by decide)
              · exact absurd c_9 (by decide)
  exact lp_1 17 0 I F g (by omega) (by omega) hLW hu0 hRR _ _ hP hD hS ls (lv_sub hl [0, 1, 2, 3, 4, 5, 6] rfl)
