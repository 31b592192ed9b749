set_option maxHeartbeats 400000 in
set_option maxRecDepth 100000 in
theorem metJ3_floorMod (l : Launch) (G : va_G) (d : Nat → Nat) (n : Nat) (hn : n < 24) : Met l yJ3_floorMod (ws_ yJ3_floorMod cJ3_floorMod 3 (some FieldType.int)) ({ frames := 0, cells := 0, slots := 0, locals := 0 } : Room) (va_Pc [.int (nI n - 8), .int 8] (pR G d ([]))) (vp_Si (fun r => r = nI (n % 8))) 0 0 (fun _ => False) := by
  refine va_MetF (cc := cJ3_floorMod) (maxL := 3) (ret := (some FieldType.int)) (by decide +kernel) rfl ?_
  intro p e s m args below meth c s₁ B hml hv
  obtain ⟨rfl, hP, hK⟩ := hv
  have hx := B.exec
  have hb := B.bytes
  have hr := B.returns
  have hts := atoms_spec (ws := (ws_ yJ3_floorMod cJ3_floorMod 3 (some FieldType.int))) B.pre
  have hts : ∀ w ∈ lw_all, w.before _ s = true := fun w h => hts w (List.mem_cons_of_mem _ h)
  have hown : s.vm.findClass RJ3 = some m.cls := findClass_of_methodNamed B.named
  have hlocks := B.notSynchronized
  have hl := lv_entry ([.int (nI n - 8), .int 8]) (n := 3) (Nat.le_of_ble_eq_true rfl)
  rw [lg_entry_eq]
  generalize (lg_sl ([.int (nI n - 8), .int 8]) ++ List.replicate (3 - (lg_sl ([.int (nI n - 8), .int 8])).length) Slot.unset).toArray = ls at hl ⊢
  have hl : lv_has ls 3 [(0, .int (nI n - 8)), (1, .int 8)] := hl
  refine lv_iload_n hx hb dJ3_floorMod_0 rfl (lv_at hl 0 rfl) ?_
  refine lv_iload_n hx hb dJ3_floorMod_1 rfl (lv_at hl 1 rfl) ?_
  refine lv_irem hx hb dJ3_floorMod_2 (by decide) ?_
  refine lv_istore_n (lv' := [(2, .int ((nI n - 8) - (nI n - 8) / 8 * 8)), (0, .int (nI n - 8)), (1, .int 8)]) hx hb dJ3_floorMod_3 rfl hl (Nat.le_of_ble_eq_true rfl) rfl (fun ls hl => ?_)
  refine lv_iload_n hx hb dJ3_floorMod_4 rfl (lv_at hl 1 rfl) ?_
  refine lv_iload_n hx hb dJ3_floorMod_5 rfl (lv_at hl 2 rfl) ?_
  refine lv_ixor hx hb dJ3_floorMod_6 ?_
  refine lv_if_ge (tgt := 18) hx hb dJ3_floorMod_7 (by decide) (fun c_1 => ?_) (fun c_1 => ?_)
  · refine lv_iload_n hx hb dJ3_floorMod_18 rfl (lv_at hl 0 rfl) ?_
    exact W.iret (v := (nI n - 8) - (nI n - 8) / 8 * 8) hx hb hr (fun t ht hW => ⟨(nI n - 8) - (nI n - 8) / 8 * 8, rfl, by rw [← fm_val n hn, if_pos c_1], ht⟩) (fun q h => by cases h) dJ3_floorMod_19
  · refine lv_iload_n hx hb dJ3_floorMod_10 rfl (lv_at hl 0 rfl) ?_
    refine lv_if_eq (tgt := 18) hx hb dJ3_floorMod_11 (by decide) (fun c_2 => ?_) (fun c_2 => ?_)
    · refine lv_iload_n hx hb dJ3_floorMod_18 rfl (lv_at hl 0 rfl) ?_
      exact W.iret (v := (nI n - 8) - (nI n - 8) / 8 * 8) hx hb hr (fun t ht hW => ⟨(nI n - 8) - (nI n - 8) / 8 * 8, rfl, by rw [← fm_val n hn, if_neg c_1, if_pos c_2], ht⟩) (fun q h => by cases h) dJ3_floorMod_19
    · refine lv_iload_n hx hb dJ3_floorMod_14 rfl (lv_at hl 0 rfl) ?_
      refine lv_iload_n hx hb dJ3_floorMod_15 rfl (lv_at hl 2 rfl) ?_
      refine lv_iadd hx hb dJ3_floorMod_16 ?_
      exact W.iret (v := ((nI n - 8) - (nI n - 8) / 8 * 8) + 8) hx hb hr (fun t ht hW => ⟨((nI n - 8) - (nI n - 8) / 8 * 8) + 8, rfl, by rw [← fm_val n hn, if_neg c_1, if_neg c_2], ht⟩) (fun q h => by cases h) dJ3_floorMod_17
set_option maxHeartbeats 400000 in
set_option maxRecDepth 100000 in
theorem metX0_stepsDn (l : Launch) (G : va_G) (d : Nat → Nat) (y : Nat) (g : Nat → Int32) (r q : Nat) (h12 : r < 12) (hq : q < 8) : Met l yX0_stepsTo (ws_ yX0_stepsTo cX0_stepsTo 5 (some FieldType.int)) ({ frames := 1, cells := 0, slots := 0, locals := 22 } : Room) (va_Pc [.ref y, .int (nI r), .int (nI q), .int (-1)] (pR G d ([(y, .inl (d 0, 96, .inl g))]))) (vp_Si (fun x => stepsP (fun j => gR g r ((q + 8 - j) % 8)) x)) 0 0 (fun _ => False) := by
  refine Met.ofW (cc := cX0_stepsTo) (maxL := 5) (ret := (some FieldType.int)) (by decide) rfl ?_
  intro p e s m args below meth c s₁ B hml hv
  obtain ⟨rfl, hP, hK⟩ := hv
  have hx := B.exec
  have hb := B.bytes
  have hr := B.returns
  have hts := atoms_spec (ws := (ws_ yX0_stepsTo cX0_stepsTo 5 (some FieldType.int))) B.pre
  have hts : ∀ w ∈ lw_all, w.before _ s = true := fun w h => hts w (List.mem_cons_of_mem _ h)
  have hown : s.vm.findClass RX0 = some m.cls := findClass_of_methodNamed B.named
  have hlocks := B.notSynchronized
  have hl := lv_entry ([.ref y, .int (nI r), .int (nI q), .int (-1)]) (n := 5) (Nat.le_of_ble_eq_true rfl)
  rw [lg_entry_eq]
  generalize (lg_sl ([.ref y, .int (nI r), .int (nI q), .int (-1)]) ++ List.replicate (5 - (lg_sl ([.ref y, .int (nI r), .int (nI q), .int (-1)])).length) Slot.unset).toArray = ls at hl ⊢
  have hl : lv_has ls 5 [(0, .ref y), (1, .int (nI r)), (2, .int (nI q)), (3, .int (-1))] := hl
  refine lv_iconst (v := 0) hx hb dX0_stepsTo_0 (by decide) ?_
  refine lv_istore (lv' := [(4, .int 0), (0, .ref y), (1, .int (nI r)), (2, .int (nI q)), (3, .int (-1))]) hx hb dX0_stepsTo_1 hl (Nat.le_of_ble_eq_true rfl) rfl (fun ls hl => ?_)
  have lp_1 : ∀ (fu : Nat) (i : Nat) (hi : i ≤ 8) (hm : 8 < i + fu) (bz : ∀ j, j < i → g (8 * r + ((q + 8 - j) % 8)) = -9) (ls : Array Slot) (hl : lv_has ls 5 [(4, .int (nI i)), (0, .ref y), (1, .int (nI r)), (2, .int (nI q)), (3, .int (-1))]), W p l e (headSpec (ws_ yX0_stepsTo cX0_stepsTo 5 (some FieldType.int)) ({ frames := 1, cells := 0, slots := 0, locals := 22 } : Room)).room s m ([.ref y, .int (nI r), .int (nI q), .int (-1)] : List Value).toArray below meth c s.heap [] 0 0 (MQ below (vp_Si (fun x => stepsP (fun j => gR g r ((q + 8 - j) % 8)) x)) ([.ref y, .int (nI r), .int (nI q), .int (-1)] : List Value).toArray s 0 0 (fun _ => False)) (F0 m 3 ls []) := by
    intro fu
    induction fu with
    | zero =>
      intro i hi hm bz ls hl
      exfalso; omega
    | succ fu ih_lp_1 =>
      intro i hi hm bz ls hl
      refine lv_iload hx hb dX0_stepsTo_3 (lv_at hl 0 rfl) ?_
      refine lv_bipush (v := 8) hx hb dX0_stepsTo_5 (by decide +kernel) ?_
      refine lv_icmp_ge (tgt := 42) hx hb dX0_stepsTo_7 (by decide) (fun c_2 => ?_) (fun c_2 => ?_)
      · have c_2 : 8 ≤ i := (nI_leI (a := 8) (b := i) (by omega) (by omega)).mp c_2
        refine lv_bipush (v := (-9)) hx hb dX0_stepsTo_42 (by decide +kernel) ?_
        exact W.iret (v := (-9)) hx hb hr (fun t ht hW => ⟨(-9), rfl, Or.inl ⟨rfl, fstN_eq (by omega) (fun j hj => bz j (by omega)) (fun z => absurd z (by omega))⟩, ht⟩) (fun q h => by cases h) dX0_stepsTo_44
      · have c_2 : ¬ 8 ≤ i := fun h => c_2 ((nI_leI (a := 8) (b := i) (by omega) (by omega)).mpr h)
        refine lv_aload_n hx hb dX0_stepsTo_10 rfl (lv_at hl 1 rfl) ?_
        refine lv_bipush (v := 8) hx hb dX0_stepsTo_11 (by decide +kernel) ?_
        refine lv_iload_n hx hb dX0_stepsTo_13 rfl (lv_at hl 2 rfl) ?_
        refine lv_imul hx hb dX0_stepsTo_14 ?_
        refine y_top (y := nI (8 * r)) (pk_mul 8 r) ?_
        refine lv_iload_n hx hb dX0_stepsTo_15 rfl (lv_at hl 3 rfl) ?_
        refine lv_iload_n hx hb dX0_stepsTo_16 rfl (lv_at hl 4 rfl) ?_
        refine lv_iload hx hb dX0_stepsTo_17 (lv_at hl 0 rfl) ?_
        refine lv_imul hx hb dX0_stepsTo_19 ?_
        refine lv_iadd hx hb dX0_stepsTo_20 ?_
        refine y_top (y := nI (q + 8 - i) - 8) (fm_dn q hq i (by omega)) ?_
        refine lv_bipush (v := 8) hx hb dX0_stepsTo_21 (by decide +kernel) ?_
        refine y_rS (As := [.int (nI (q + 8 - i) - 8), .int 8]) (rest := [.int (nI (8 * r)), .ref y]) ⟨hx, hb, hml, hown, hts⟩ hK (ws := []) (fun _ _ h => by cases h) (metJ3_floorMod l G d (q + 8 - i) (by omega)) (va_cwS 2 hts (lw_S q236 q237 q40 q238) rfl rfl rfl (by decide +kernel) ⟨Nat.le_of_ble_eq_true rfl, Nat.le_of_ble_eq_true rfl⟩) rfl hl.1 rfl (lv_room (Nat.le_of_ble_eq_true rfl)) dX0_stepsTo_23 ⟨Nat.le_of_ble_eq_true rfl, Nat.le_of_ble_eq_true rfl⟩ (fun r_3 hr_4 => ?_)
        rw [hr_4]
        refine lv_iadd hx hb dX0_stepsTo_26 ?_
        refine y_top (y := nI ((8 * r) + ((q + 8 - i) % 8))) (nI_add (8 * r) ((q + 8 - i) % 8)) ?_
        refine y_iald (N := (8 * r) + ((q + 8 - i) % 8)) (f := g) hx hb hK hP 0 0 rfl rfl rfl (by omega) (by decide) dX0_stepsTo_27 ?_
        refine lv_bipush (v := (-9)) hx hb dX0_stepsTo_28 (by decide +kernel) ?_
        refine lv_icmp_eq (tgt := 36) hx hb dX0_stepsTo_30 (by decide) (fun c_5 => ?_) (fun c_5 => ?_)
        · refine lv_iinc (v := nI (i + 1)) (lv' := [(4, .int (nI (i + 1))), (0, .ref y), (1, .int (nI r)), (2, .int (nI q)), (3, .int (-1))]) hx hb dX0_stepsTo_36 hl (k := 0) rfl (nI_add i 1) (Nat.le_of_ble_eq_true rfl) rfl (fun ls hl => ?_)
          refine lv_goto (tgt := 3) hx hb dX0_stepsTo_39 (by decide) ?_
          exact ih_lp_1 (i + 1) (by omega) (by omega) (lt_s bz c_5) ls (lv_sub hl [0, 1, 2, 3, 4] rfl)
        · refine lv_iload hx hb dX0_stepsTo_33 (lv_at hl 0 rfl) ?_
          have ef : fstN (fun j => gR g r ((q + 8 - j) % 8)) 8 = i := fstN_eq (by omega) bz (fun _ => c_5)
          exact W.iret (v := nI i) hx hb hr (fun t ht hW => ⟨nI i, rfl, Or.inr ⟨by rw [ef]; omega, by rw [ef]⟩, ht⟩) (fun q h => by cases h) dX0_stepsTo_35
  exact lp_1 9 0 (by omega) (by omega) (fun j hj => absurd hj (Nat.not_lt_zero j)) ls (lv_sub hl [0, 1, 2, 3, 4] rfl)
set_option maxHeartbeats 400000 in
set_option maxRecDepth 100000 in
theorem metX0_stepsUp (l : Launch) (G : va_G) (d : Nat → Nat) (y : Nat) (g : Nat → Int32) (r q : Nat) (h12 : r < 12) (hq : q < 8) : Met l yX0_stepsTo (ws_ yX0_stepsTo cX0_stepsTo 5 (some FieldType.int)) ({ frames := 1, cells := 0, slots := 0, locals := 22 } : Room) (va_Pc [.ref y, .int (nI r), .int (nI q), .int 1] (pR G d ([(y, .inl (d 0, 96, .inl g))]))) (vp_Si (fun x => stepsP (fun j => gR g r ((q + j) % 8)) x)) 0 0 (fun _ => False) := by
  refine Met.ofW (cc := cX0_stepsTo) (maxL := 5) (ret := (some FieldType.int)) (by decide) rfl ?_
  intro p e s m args below meth c s₁ B hml hv
  obtain ⟨rfl, hP, hK⟩ := hv
  have hx := B.exec
  have hb := B.bytes
  have hr := B.returns
  have hts := atoms_spec (ws := (ws_ yX0_stepsTo cX0_stepsTo 5 (some FieldType.int))) B.pre
  have hts : ∀ w ∈ lw_all, w.before _ s = true := fun w h => hts w (List.mem_cons_of_mem _ h)
  have hown : s.vm.findClass RX0 = some m.cls := findClass_of_methodNamed B.named
  have hlocks := B.notSynchronized
  have hl := lv_entry ([.ref y, .int (nI r), .int (nI q), .int 1]) (n := 5) (Nat.le_of_ble_eq_true rfl)
  rw [lg_entry_eq]
  generalize (lg_sl ([.ref y, .int (nI r), .int (nI q), .int 1]) ++ List.replicate (5 - (lg_sl ([.ref y, .int (nI r), .int (nI q), .int 1])).length) Slot.unset).toArray = ls at hl ⊢
  have hl : lv_has ls 5 [(0, .ref y), (1, .int (nI r)), (2, .int (nI q)), (3, .int 1)] := hl
  refine lv_iconst (v := 0) hx hb dX0_stepsTo_0 (by decide) ?_
  refine lv_istore (lv' := [(4, .int 0), (0, .ref y), (1, .int (nI r)), (2, .int (nI q)), (3, .int 1)]) hx hb dX0_stepsTo_1 hl (Nat.le_of_ble_eq_true rfl) rfl (fun ls hl => ?_)
  have lp_1 : ∀ (fu : Nat) (i : Nat) (hi : i ≤ 8) (hm : 8 < i + fu) (bz : ∀ j, j < i → g (8 * r + ((q + j) % 8)) = -9) (ls : Array Slot) (hl : lv_has ls 5 [(4, .int (nI i)), (0, .ref y), (1, .int (nI r)), (2, .int (nI q)), (3, .int 1)]), W p l e (headSpec (ws_ yX0_stepsTo cX0_stepsTo 5 (some FieldType.int)) ({ frames := 1, cells := 0, slots := 0, locals := 22 } : Room)).room s m ([.ref y, .int (nI r), .int (nI q), .int 1] : List Value).toArray below meth c s.heap [] 0 0 (MQ below (vp_Si (fun x => stepsP (fun j => gR g r ((q + j) % 8)) x)) ([.ref y, .int (nI r), .int (nI q), .int 1] : List Value).toArray s 0 0 (fun _ => False)) (F0 m 3 ls []) := by
    intro fu
    induction fu with
    | zero =>
      intro i hi hm bz ls hl
      exfalso; omega
    | succ fu ih_lp_1 =>
      intro i hi hm bz ls hl
      refine lv_iload hx hb dX0_stepsTo_3 (lv_at hl 0 rfl) ?_
      refine lv_bipush (v := 8) hx hb dX0_stepsTo_5 (by decide +kernel) ?_
      refine lv_icmp_ge (tgt := 42) hx hb dX0_stepsTo_7 (by decide) (fun c_2 => ?_) (fun c_2 => ?_)
      · have c_2 : 8 ≤ i := (nI_leI (a := 8) (b := i) (by omega) (by omega)).mp c_2
        refine lv_bipush (v := (-9)) hx hb dX0_stepsTo_42 (by decide +kernel) ?_
        exact W.iret (v := (-9)) hx hb hr (fun t ht hW => ⟨(-9), rfl, Or.inl ⟨rfl, fstN_eq (by omega) (fun j hj => bz j (by omega)) (fun z => absurd z (by omega))⟩, ht⟩) (fun q h => by cases h) dX0_stepsTo_44
      · have c_2 : ¬ 8 ≤ i := fun h => c_2 ((nI_leI (a := 8) (b := i) (by omega) (by omega)).mpr h)
        refine lv_aload_n hx hb dX0_stepsTo_10 rfl (lv_at hl 1 rfl) ?_
        refine lv_bipush (v := 8) hx hb dX0_stepsTo_11 (by decide +kernel) ?_
        refine lv_iload_n hx hb dX0_stepsTo_13 rfl (lv_at hl 2 rfl) ?_
        refine lv_imul hx hb dX0_stepsTo_14 ?_
        refine y_top (y := nI (8 * r)) (pk_mul 8 r) ?_
        refine lv_iload_n hx hb dX0_stepsTo_15 rfl (lv_at hl 3 rfl) ?_
        refine lv_iload_n hx hb dX0_stepsTo_16 rfl (lv_at hl 4 rfl) ?_
        refine lv_iload hx hb dX0_stepsTo_17 (lv_at hl 0 rfl) ?_
        refine lv_imul hx hb dX0_stepsTo_19 ?_
        refine y_top (y := nI (1 * i)) (pk_mul 1 i) ?_
        refine lv_iadd hx hb dX0_stepsTo_20 ?_
        refine y_top (y := nI (q + (1 * i))) (nI_add q (1 * i)) ?_
        refine y_top (y := nI (q + 8 + i) - 8) (fm_up q hq i (by omega)) ?_
        refine lv_bipush (v := 8) hx hb dX0_stepsTo_21 (by decide +kernel) ?_
        refine y_rS (As := [.int (nI (q + 8 + i) - 8), .int 8]) (rest := [.int (nI (8 * r)), .ref y]) ⟨hx, hb, hml, hown, hts⟩ hK (ws := []) (fun _ _ h => by cases h) (metJ3_floorMod l G d (q + 8 + i) (by omega)) (va_cwS 2 hts (lw_S q236 q237 q40 q238) rfl rfl rfl (by decide +kernel) ⟨Nat.le_of_ble_eq_true rfl, Nat.le_of_ble_eq_true rfl⟩) rfl hl.1 rfl (lv_room (Nat.le_of_ble_eq_true rfl)) dX0_stepsTo_23 ⟨Nat.le_of_ble_eq_true rfl, Nat.le_of_ble_eq_true rfl⟩ (fun r_3 hr_4 => ?_)
        rw [hr_4]
        refine y_top (y := nI ((q + i) % 8)) (congrArg nI (show (q + 8 + i) % 8 = (q + i) % 8 by omega)) ?_
        refine lv_iadd hx hb dX0_stepsTo_26 ?_
        refine y_top (y := nI ((8 * r) + ((q + i) % 8))) (nI_add (8 * r) ((q + i) % 8)) ?_
        refine y_iald (N := (8 * r) + ((q + i) % 8)) (f := g) hx hb hK hP 0 0 rfl rfl rfl (by omega) (by decide) dX0_stepsTo_27 ?_
        refine lv_bipush (v := (-9)) hx hb dX0_stepsTo_28 (by decide +kernel) ?_
        refine lv_icmp_eq (tgt := 36) hx hb dX0_stepsTo_30 (by decide) (fun c_5 => ?_) (fun c_5 => ?_)
        · refine lv_iinc (v := nI (i + 1)) (lv' := [(4, .int (nI (i + 1))), (0, .ref y), (1, .int (nI r)), (2, .int (nI q)), (3, .int 1)]) hx hb dX0_stepsTo_36 hl (k := 0) rfl (nI_add i 1) (Nat.le_of_ble_eq_true rfl) rfl (fun ls hl => ?_)
          refine lv_goto (tgt := 3) hx hb dX0_stepsTo_39 (by decide) ?_
          exact ih_lp_1 (i + 1) (by omega) (by omega) (lt_s bz c_5) ls (lv_sub hl [0, 1, 2, 3, 4] rfl)
        · refine lv_iload hx hb dX0_stepsTo_33 (lv_at hl 0 rfl) ?_
          have ef : fstN (fun j => gR g r ((q + j) % 8)) 8 = i := fstN_eq (by omega) bz (fun _ => c_5)
          exact W.iret (v := nI i) hx hb hr (fun t ht hW => ⟨nI i, rfl, Or.inr ⟨by rw [ef]; omega, by rw [ef]⟩, ht⟩) (fun q h => by cases h) dX0_stepsTo_35
  exact lp_1 9 0 (by omega) (by omega) (fun j hj => absurd hj (Nat.not_lt_zero j)) ls (lv_sub hl [0, 1, 2, 3, 4] rfl)
set_option maxHeartbeats 400000 in
set_option maxRecDepth 100000 in
theorem metX0_filled (l : Launch) (G : va_G) (d : Nat → Nat) (y : Nat) (g : Nat → Int32) (r q : Nat) (h12 : r < 12) (hq : q < 8) : Met l yX0_filled (ws_ yX0_filled cX0_filled 7 (some FieldType.int)) ({ frames := 2, cells := 0, slots := 0, locals := 46 } : Room) (va_Pc [.ref y, .int (nI r), .int (nI q)] (pR G d ([(y, .inl (d 0, 96, .inl g))]))) (vp_Si (fun x => x = fillV (gR g r) q)) 0 0 (fun _ => False) := by
  refine Met.ofW (cc := cX0_filled) (maxL := 7) (ret := (some FieldType.int)) (by decide) rfl ?_
  intro p e s m args below meth c s₁ B hml hv
  obtain ⟨rfl, hP, hK⟩ := hv
  have hx := B.exec
  have hb := B.bytes
  have hr := B.returns
  have hts := atoms_spec (ws := (ws_ yX0_filled cX0_filled 7 (some FieldType.int))) B.pre
  have hts : ∀ w ∈ lw_all, w.before _ s = true := fun w h => hts w (List.mem_cons_of_mem _ h)
  have hown : s.vm.findClass RX0 = some m.cls := findClass_of_methodNamed B.named
  have hlocks := B.notSynchronized
  have hl := lv_entry ([.ref y, .int (nI r), .int (nI q)]) (n := 7) (Nat.le_of_ble_eq_true rfl)
  rw [lg_entry_eq]
  generalize (lg_sl ([.ref y, .int (nI r), .int (nI q)]) ++ List.replicate (7 - (lg_sl ([.ref y, .int (nI r), .int (nI q)])).length) Slot.unset).toArray = ls at hl ⊢
  have hl : lv_has ls 7 [(0, .ref y), (1, .int (nI r)), (2, .int (nI q))] := hl
  refine lv_aload_n hx hb dX0_filled_0 rfl (lv_at hl 0 rfl) ?_
  refine lv_iload_n hx hb dX0_filled_1 rfl (lv_at hl 1 rfl) ?_
  refine lv_iload_n hx hb dX0_filled_2 rfl (lv_at hl 2 rfl) ?_
  refine lv_iconst (v := (-1)) hx hb dX0_filled_3 (by decide) ?_
  refine y_rS (As := [.ref y, .int (nI r), .int (nI q), .int (-1)]) (rest := []) ⟨hx, hb, hml, hown, hts⟩ hK hP (metX0_stepsDn l G d y g r q (by omega) (by omega)) (va_cwS 4 hts (lw_S q233 q234 q35 q235) rfl rfl rfl (by decide +kernel) ⟨Nat.le_of_ble_eq_true rfl, Nat.le_of_ble_eq_true rfl⟩) rfl hl.1 rfl (lv_room (Nat.le_of_ble_eq_true rfl)) dX0_filled_4 ⟨Nat.le_of_ble_eq_true rfl, Nat.le_of_ble_eq_true rfl⟩ (fun r_1 hr_2 => ?_)
  have sd := fstN_spec (fun j => gR g r ((q + 8 - j) % 8)) 8
  rcases hr_2 with ⟨hr1, hf1⟩ | ⟨hf1, hr1⟩
  · subst hr1
    refine lv_istore_n (lv' := [(3, .int (-9)), (0, .ref y), (1, .int (nI r)), (2, .int (nI q))]) hx hb dX0_filled_7 rfl hl (Nat.le_of_ble_eq_true rfl) rfl (fun ls hl => ?_)
    refine lv_iload_n hx hb dX0_filled_8 rfl (lv_at hl 0 rfl) ?_
    refine lv_bipush (v := (-9)) hx hb dX0_filled_9 (by decide +kernel) ?_
    refine lv_icmp_eq (tgt := 18) hx hb dX0_filled_11 (by decide) (fun c_3 => ?_) (fun c_3 => ?_)
    · refine lv_aload_n hx hb dX0_filled_18 rfl (lv_at hl 1 rfl) ?_
      refine lv_bipush (v := 8) hx hb dX0_filled_19 (by decide +kernel) ?_
      refine lv_iload_n hx hb dX0_filled_21 rfl (lv_at hl 2 rfl) ?_
      refine lv_imul hx hb dX0_filled_22 ?_
      refine y_top (y := nI (8 * r)) (pk_mul 8 r) ?_
      refine lv_iload_n hx hb dX0_filled_23 rfl (lv_at hl 3 rfl) ?_
      refine lv_iadd hx hb dX0_filled_24 ?_
      refine y_top (y := nI ((8 * r) + q)) (nI_add (8 * r) q) ?_
      refine y_iald (N := (8 * r) + q) (f := g) hx hb hK hP 0 0 rfl rfl rfl (by omega) (by decide) dX0_filled_25 ?_
      exact W.iret (v := g ((8 * r) + q)) hx hb hr (fun t ht hW => ⟨g ((8 * r) + q), rfl, by
          rw [fillV_8 (g := gR g r) (p := q) (fun j hj => sd.1 j (by omega))]
          have h1 : g (8 * r + (q + 8 - 0) % 8) = -9 := sd.1 0 (by omega)
          rw [show (q + 8 - 0) % 8 = q by omega] at h1
          exact h1, ht⟩) (fun q h => by cases h) dX0_filled_26
    · exact absurd c_3 (by decide)
  · subst hr1
    generalize hz : fstN (fun j => gR g r ((q + 8 - j) % 8)) 8 = z at hf1 sd ⊢
    refine lv_istore_n (lv' := [(3, .int (nI z)), (0, .ref y), (1, .int (nI r)), (2, .int (nI q))]) hx hb dX0_filled_7 rfl hl (Nat.le_of_ble_eq_true rfl) rfl (fun ls hl => ?_)
    refine lv_iload_n hx hb dX0_filled_8 rfl (lv_at hl 0 rfl) ?_
    refine lv_bipush (v := (-9)) hx hb dX0_filled_9 (by decide +kernel) ?_
    refine lv_icmp_eq (tgt := 18) hx hb dX0_filled_11 (by decide) (fun c_4 => ?_) (fun c_4 => ?_)
    · exact absurd c_4 (nI_ne9 (by omega))
    · refine lv_iload_n hx hb dX0_filled_14 rfl (lv_at hl 0 rfl) ?_
      refine lv_if_ne (tgt := 27) hx hb dX0_filled_15 (by decide) (fun c_5 => ?_) (fun c_5 => ?_)
      · have c_5 : ¬ z = 0 := fun h => c_5 ((nI_eq (a := z) (b := 0) (by omega) (by omega)).mpr h)
        refine lv_aload_n hx hb dX0_filled_27 rfl (lv_at hl 1 rfl) ?_
        refine lv_iload_n hx hb dX0_filled_28 rfl (lv_at hl 2 rfl) ?_
        refine lv_iload_n hx hb dX0_filled_29 rfl (lv_at hl 3 rfl) ?_
        refine lv_iconst (v := 1) hx hb dX0_filled_30 (by decide) ?_
        refine y_rS (As := [.ref y, .int (nI r), .int (nI q), .int 1]) (rest := []) ⟨hx, hb, hml, hown, hts⟩ hK hP (metX0_stepsUp l G d y g r q (by omega) (by omega)) (va_cwS 4 hts (lw_S q233 q234 q35 q235) rfl rfl rfl (by decide +kernel) ⟨Nat.le_of_ble_eq_true rfl, Nat.le_of_ble_eq_true rfl⟩) rfl hl.1 rfl (lv_room (Nat.le_of_ble_eq_true rfl)) dX0_filled_31 ⟨Nat.le_of_ble_eq_true rfl, Nat.le_of_ble_eq_true rfl⟩ (fun r_6 hr_7 => ?_)
        have su := fstN_spec (fun j => gR g r ((q + j) % 8)) 8
        have z8 := fstN_le (fun j => gR g r ((q + j) % 8)) 8
        have hu8 : fstN (fun j => gR g r ((q + j) % 8)) 8 < 8 := by
          rcases Nat.lt_or_ge (fstN (fun j => gR g r ((q + j) % 8)) 8) 8 with w | w
          · exact w
          · exfalso
            have h3 : g (8 * r + (q + (8 - z)) % 8) = -9 := su.1 (8 - z) (by omega)
            rw [show (q + (8 - z)) % 8 = (q + 8 - z) % 8 by omega] at h3
            exact sd.2 hf1 h3
        have er : r_6 = nI (fstN (fun j => gR g r ((q + j) % 8)) 8) := by
          rcases hr_7 with ⟨h1, h2⟩ | ⟨h1, h2⟩
          · omega
          · exact h2
        subst er
        generalize hx9 : fstN (fun j => gR g r ((q + j) % 8)) 8 = x at hu8 su z8 ⊢
        refine lv_istore (lv' := [(4, .int (nI x)), (3, .int (nI z)), (0, .ref y), (1, .int (nI r)), (2, .int (nI q))]) hx hb dX0_filled_34 hl (Nat.le_of_ble_eq_true rfl) rfl (fun ls hl => ?_)
        refine lv_aload_n hx hb dX0_filled_36 rfl (lv_at hl 2 rfl) ?_
        refine lv_bipush (v := 8) hx hb dX0_filled_37 (by decide +kernel) ?_
        refine lv_iload_n hx hb dX0_filled_39 rfl (lv_at hl 3 rfl) ?_
        refine lv_imul hx hb dX0_filled_40 ?_
        refine y_top (y := nI (8 * r)) (pk_mul 8 r) ?_
        refine lv_iload_n hx hb dX0_filled_41 rfl (lv_at hl 4 rfl) ?_
        refine lv_iload_n hx hb dX0_filled_42 rfl (lv_at hl 1 rfl) ?_
        refine lv_isub hx hb dX0_filled_43 ?_
        refine y_top (y := nI (q + 8 - z) - 8) (fm_mi q hq z (by omega)) ?_
        refine lv_bipush (v := 8) hx hb dX0_filled_44 (by decide +kernel) ?_
        refine y_rS (As := [.int (nI (q + 8 - z) - 8), .int 8]) (rest := [.int (nI (8 * r)), .ref y]) ⟨hx, hb, hml, hown, hts⟩ hK (ws := []) (fun _ _ h => by cases h) (metJ3_floorMod l G d (q + 8 - z) (by omega)) (va_cwS 2 hts (lw_S q236 q237 q40 q238) rfl rfl rfl (by decide +kernel) ⟨Nat.le_of_ble_eq_true rfl, Nat.le_of_ble_eq_true rfl⟩) rfl hl.1 rfl (lv_room (Nat.le_of_ble_eq_true rfl)) dX0_filled_46 ⟨Nat.le_of_ble_eq_true rfl, Nat.le_of_ble_eq_true rfl⟩ (fun r_8 hr_9 => ?_)
        rw [hr_9]
        refine lv_iadd hx hb dX0_filled_49 ?_
        refine y_top (y := nI ((8 * r) + ((q + 8 - z) % 8))) (nI_add (8 * r) ((q + 8 - z) % 8)) ?_
        refine y_iald (N := (8 * r) + ((q + 8 - z) % 8)) (f := g) hx hb hK hP 0 0 rfl rfl rfl (by omega) (by decide) dX0_filled_50 ?_
        refine lv_istore (lv' := [(5, .int (g ((8 * r) + ((q + 8 - z) % 8)))), (4, .int (nI x)), (3, .int (nI z)), (0, .ref y), (1, .int (nI r)), (2, .int (nI q))]) hx hb dX0_filled_51 hl (Nat.le_of_ble_eq_true rfl) rfl (fun ls hl => ?_)
        refine lv_aload_n hx hb dX0_filled_53 rfl (lv_at hl 3 rfl) ?_
        refine lv_bipush (v := 8) hx hb dX0_filled_54 (by decide +kernel) ?_
        refine lv_iload_n hx hb dX0_filled_56 rfl (lv_at hl 4 rfl) ?_
        refine lv_imul hx hb dX0_filled_57 ?_
        refine y_top (y := nI (8 * r)) (pk_mul 8 r) ?_
        refine lv_iload_n hx hb dX0_filled_58 rfl (lv_at hl 5 rfl) ?_
        refine lv_iload hx hb dX0_filled_59 (lv_at hl 1 rfl) ?_
        refine lv_iadd hx hb dX0_filled_61 ?_
        refine y_top (y := nI (q + x)) (nI_add q x) ?_
        refine lv_bipush (v := 8) hx hb dX0_filled_62 (by decide +kernel) ?_
        refine lv_irem hx hb dX0_filled_64 (by decide) ?_
        refine y_top (y := nI ((q + x) % 8)) (pk_rem (a := q + x) (d := 8) (by omega) (by omega) (by omega)) ?_
        refine lv_iadd hx hb dX0_filled_65 ?_
        refine y_top (y := nI ((8 * r) + ((q + x) % 8))) (nI_add (8 * r) ((q + x) % 8)) ?_
        refine y_iald (N := (8 * r) + ((q + x) % 8)) (f := g) hx hb hK hP 0 0 rfl rfl rfl (by omega) (by decide) dX0_filled_66 ?_
        refine lv_istore (lv' := [(6, .int (g ((8 * r) + ((q + x) % 8)))), (5, .int (g ((8 * r) + ((q + 8 - z) % 8)))), (4, .int (nI x)), (3, .int (nI z)), (0, .ref y), (1, .int (nI r)), (2, .int (nI q))]) hx hb dX0_filled_67 hl (Nat.le_of_ble_eq_true rfl) rfl (fun ls hl => ?_)
        refine lv_iload hx hb dX0_filled_69 (lv_at hl 1 rfl) ?_
        refine lv_iload hx hb dX0_filled_71 (lv_at hl 2 rfl) ?_
        refine lv_imul hx hb dX0_filled_73 ?_
        refine lv_iload hx hb dX0_filled_74 (lv_at hl 0 rfl) ?_
        refine lv_iload_n hx hb dX0_filled_76 rfl (lv_at hl 3 rfl) ?_
        refine lv_imul hx hb dX0_filled_77 ?_
        refine lv_iadd hx hb dX0_filled_78 ?_
        refine lv_iload_n hx hb dX0_filled_79 rfl (lv_at hl 3 rfl) ?_
        refine lv_iload hx hb dX0_filled_80 (lv_at hl 2 rfl) ?_
        refine lv_iadd hx hb dX0_filled_82 ?_
        refine y_top (y := nI (z + x)) (nI_add z x) ?_
        refine lv_idiv hx hb dX0_filled_83 (nI_ne0 (by omega) (by omega)) ?_
        exact W.iret (v := (((g ((8 * r) + ((q + 8 - z) % 8))) * (nI x)) + ((g ((8 * r) + ((q + x) % 8))) * (nI z))) / (nI (z + x))) hx hb hr (fun t ht hW => ⟨(((g ((8 * r) + ((q + 8 - z) % 8))) * (nI x)) + ((g ((8 * r) + ((q + x) % 8))) * (nI z))) / (nI (z + x)), rfl, (fillV_eq (g := gR g r) (p := q) (by omega) sd.1 (fun _ => sd.2 hf1) (by omega) su.1 (fun _ => su.2 hu8) (by omega) (by omega)).symm, ht⟩) (fun q h => by cases h) dX0_filled_84
      · have c_5 : z = 0 := (nI_eq (a := z) (b := 0) (by omega) (by omega)).mp c_5
        refine lv_aload_n hx hb dX0_filled_18 rfl (lv_at hl 1 rfl) ?_
        refine lv_bipush (v := 8) hx hb dX0_filled_19 (by decide +kernel) ?_
        refine lv_iload_n hx hb dX0_filled_21 rfl (lv_at hl 2 rfl) ?_
        refine lv_imul hx hb dX0_filled_22 ?_
        refine y_top (y := nI (8 * r)) (pk_mul 8 r) ?_
        refine lv_iload_n hx hb dX0_filled_23 rfl (lv_at hl 3 rfl) ?_
        refine lv_iadd hx hb dX0_filled_24 ?_
        refine y_top (y := nI ((8 * r) + q)) (nI_add (8 * r) q) ?_
        refine y_iald (N := (8 * r) + q) (f := g) hx hb hK hP 0 0 rfl rfl rfl (by omega) (by decide) dX0_filled_25 ?_
        exact W.iret (v := g ((8 * r) + q)) hx hb hr (fun t ht hW => ⟨g ((8 * r) + q), rfl, by
            have h1 : ¬ g (8 * r + (q + 8 - z) % 8) = -9 := sd.2 hf1
            rw [show (q + 8 - z) % 8 = q by omega] at h1
            exact (fillV_0 (g := gR g r) hq h1).symm, ht⟩) (fun q h => by cases h) dX0_filled_26
set_option maxHeartbeats 400000 in
set_option maxRecDepth 100000 in
theorem metX0_ringRoom (l : Launch) (G : va_G) (d : Nat → Nat) (y : Nat) (g : Nat → Int32) (r : Nat) (h12 : r < 12) : Met l yX0_ringRoom (ws_ yX0_ringRoom cX0_ringRoom 4 (some FieldType.int)) ({ frames := 3, cells := 0, slots := 0, locals := 72 } : Room) (va_Pc [.ref y, .int (nI r)] (pR G d ([(y, .inl (d 0, 96, .inl g))]))) (vp_Si (fun x => x = roomV (gR g r))) 0 0 (fun _ => False) := by
  refine Met.ofW (cc := cX0_ringRoom) (maxL := 4) (ret := (some FieldType.int)) (by decide) rfl ?_
  intro p e s m args below meth c s₁ B hml hv
  obtain ⟨rfl, hP, hK⟩ := hv
  have hx := B.exec
  have hb := B.bytes
  have hr := B.returns
  have hts := atoms_spec (ws := (ws_ yX0_ringRoom cX0_ringRoom 4 (some FieldType.int))) B.pre
  have hts : ∀ w ∈ lw_all, w.before _ s = true := fun w h => hts w (List.mem_cons_of_mem _ h)
  have hown : s.vm.findClass RX0 = some m.cls := findClass_of_methodNamed B.named
  have hlocks := B.notSynchronized
  have hl := lv_entry ([.ref y, .int (nI r)]) (n := 4) (Nat.le_of_ble_eq_true rfl)
  rw [lg_entry_eq]
  generalize (lg_sl ([.ref y, .int (nI r)]) ++ List.replicate (4 - (lg_sl ([.ref y, .int (nI r)])).length) Slot.unset).toArray = ls at hl ⊢
  have hl : lv_has ls 4 [(0, .ref y), (1, .int (nI r))] := hl
  refine lv_aload_n hx hb dX0_ringRoom_0 rfl (lv_at hl 0 rfl) ?_
  refine lv_iload_n hx hb dX0_ringRoom_1 rfl (lv_at hl 1 rfl) ?_
  refine lv_iconst (v := 0) hx hb dX0_ringRoom_2 (by decide) ?_
  refine y_rS (As := [.ref y, .int (nI r), .int 0]) (rest := []) ⟨hx, hb, hml, hown, hts⟩ hK hP (metX0_filled l G d y g r 0 (by omega) (by omega)) (va_cwS 3 hts (lw_S q230 q231 q35 q232) rfl rfl rfl (by decide +kernel) ⟨Nat.le_of_ble_eq_true rfl, Nat.le_of_ble_eq_true rfl⟩) rfl hl.1 rfl (lv_room (Nat.le_of_ble_eq_true rfl)) dX0_ringRoom_3 ⟨Nat.le_of_ble_eq_true rfl, Nat.le_of_ble_eq_true rfl⟩ (fun r_1 hr_2 => ?_)
  rw [hr_2]
  refine lv_bipush (v := (-9)) hx hb dX0_ringRoom_6 (by decide +kernel) ?_
  refine lv_icmp_ne (tgt := 14) hx hb dX0_ringRoom_8 (by decide) (fun c_3 => ?_) (fun c_3 => ?_)
  · refine lv_iconst (v := 0) hx hb dX0_ringRoom_14 (by decide) ?_
    refine lv_istore_n (lv' := [(2, .int 0), (0, .ref y), (1, .int (nI r))]) hx hb dX0_ringRoom_15 rfl hl (Nat.le_of_ble_eq_true rfl) rfl (fun ls hl => ?_)
    refine lv_iconst (v := 0) hx hb dX0_ringRoom_16 (by decide) ?_
    refine lv_istore_n (lv' := [(3, .int 0), (2, .int 0), (0, .ref y), (1, .int (nI r))]) hx hb dX0_ringRoom_17 rfl hl (Nat.le_of_ble_eq_true rfl) rfl (fun ls hl => ?_)
    have lp_4 : ∀ (fu : Nat) (i : Nat) (sm : Int32) (hi : i ≤ 8) (hm : 8 < i + fu) (hs : sm = sumR (fun p => fillV (gR g r) p * fillV (gR g r) ((p + 1) % 8)) i) (ls : Array Slot) (hl : lv_has ls 4 [(3, .int (nI i)), (2, .int sm), (0, .ref y), (1, .int (nI r))]), W p l e (headSpec (ws_ yX0_ringRoom cX0_ringRoom 4 (some FieldType.int)) ({ frames := 3, cells := 0, slots := 0, locals := 72 } : Room)).room s m ([.ref y, .int (nI r)] : List Value).toArray below meth c s.heap [] 0 0 (MQ below (vp_Si (fun x => x = roomV (gR g r))) ([.ref y, .int (nI r)] : List Value).toArray s 0 0 (fun _ => False)) (F0 m 18 ls []) := by
      intro fu
      induction fu with
      | zero =>
        intro i sm hi hm hs ls hl
        exfalso; omega
      | succ fu ih_lp_4 =>
        intro i sm hi hm hs ls hl
        refine lv_iload_n hx hb dX0_ringRoom_18 rfl (lv_at hl 0 rfl) ?_
        refine lv_bipush (v := 8) hx hb dX0_ringRoom_19 (by decide +kernel) ?_
        refine lv_icmp_ge (tgt := 51) hx hb dX0_ringRoom_21 (by decide) (fun c_5 => ?_) (fun c_5 => ?_)
        · have c_5 : 8 ≤ i := (nI_leI (a := 8) (b := i) (by omega) (by omega)).mp c_5
          refine lv_iload_n hx hb dX0_ringRoom_51 rfl (lv_at hl 1 rfl) ?_
          exact W.iret (v := sm) hx hb hr (fun t ht hW => ⟨sm, rfl, by rw [roomV, if_neg c_3, hs, show i = 8 by omega], ht⟩) (fun q h => by cases h) dX0_ringRoom_52
        · have c_5 : ¬ 8 ≤ i := fun h => c_5 ((nI_leI (a := 8) (b := i) (by omega) (by omega)).mpr h)
          refine lv_iload_n hx hb dX0_ringRoom_24 rfl (lv_at hl 1 rfl) ?_
          refine lv_aload_n hx hb dX0_ringRoom_25 rfl (lv_at hl 2 rfl) ?_
          refine lv_iload_n hx hb dX0_ringRoom_26 rfl (lv_at hl 3 rfl) ?_
          refine lv_iload_n hx hb dX0_ringRoom_27 rfl (lv_at hl 0 rfl) ?_
          refine y_rS (As := [.ref y, .int (nI r), .int (nI i)]) (rest := [.int sm]) ⟨hx, hb, hml, hown, hts⟩ hK hP (metX0_filled l G d y g r i (by omega) (by omega)) (va_cwS 3 hts (lw_S q230 q231 q35 q232) rfl rfl rfl (by decide +kernel) ⟨Nat.le_of_ble_eq_true rfl, Nat.le_of_ble_eq_true rfl⟩) rfl hl.1 rfl (lv_room (Nat.le_of_ble_eq_true rfl)) dX0_ringRoom_28 ⟨Nat.le_of_ble_eq_true rfl, Nat.le_of_ble_eq_true rfl⟩ (fun r_6 hr_7 => ?_)
          rw [hr_7]
          refine lv_aload_n hx hb dX0_ringRoom_31 rfl (lv_at hl 2 rfl) ?_
          refine lv_iload_n hx hb dX0_ringRoom_32 rfl (lv_at hl 3 rfl) ?_
          refine lv_iload_n hx hb dX0_ringRoom_33 rfl (lv_at hl 0 rfl) ?_
          refine lv_iconst (v := 1) hx hb dX0_ringRoom_34 (by decide) ?_
          refine lv_iadd hx hb dX0_ringRoom_35 ?_
          refine y_top (y := nI (i + 1)) (nI_add i 1) ?_
          refine lv_bipush (v := 8) hx hb dX0_ringRoom_36 (by decide +kernel) ?_
          refine lv_irem hx hb dX0_ringRoom_38 (by decide) ?_
          refine y_top (y := nI ((i + 1) % 8)) (pk_rem (a := i + 1) (d := 8) (by omega) (by omega) (by omega)) ?_
          refine y_rS (As := [.ref y, .int (nI r), .int (nI ((i + 1) % 8))]) (rest := [.int (fillV (gR g r) i), .int sm]) ⟨hx, hb, hml, hown, hts⟩ hK hP (metX0_filled l G d y g r ((i + 1) % 8) (by omega) (by omega)) (va_cwS 3 hts (lw_S q230 q231 q35 q232) rfl rfl rfl (by decide +kernel) ⟨Nat.le_of_ble_eq_true rfl, Nat.le_of_ble_eq_true rfl⟩) rfl hl.1 rfl (lv_room (Nat.le_of_ble_eq_true rfl)) dX0_ringRoom_39 ⟨Nat.le_of_ble_eq_true rfl, Nat.le_of_ble_eq_true rfl⟩ (fun r_8 hr_9 => ?_)
          rw [hr_9]
          refine lv_imul hx hb dX0_ringRoom_42 ?_
          refine lv_iadd hx hb dX0_ringRoom_43 ?_
          refine lv_istore_n (lv' := [(2, .int (sm + ((fillV (gR g r) i) * (fillV (gR g r) ((i + 1) % 8))))), (3, .int (nI i)), (0, .ref y), (1, .int (nI r))]) hx hb dX0_ringRoom_44 rfl hl (Nat.le_of_ble_eq_true rfl) rfl (fun ls hl => ?_)
          refine lv_iinc (v := nI (i + 1)) (lv' := [(3, .int (nI (i + 1))), (2, .int (sm + ((fillV (gR g r) i) * (fillV (gR g r) ((i + 1) % 8))))), (0, .ref y), (1, .int (nI r))]) hx hb dX0_ringRoom_45 hl (k := 1) rfl (nI_add i 1) (Nat.le_of_ble_eq_true rfl) rfl (fun ls hl => ?_)
          refine lv_goto (tgt := 18) hx hb dX0_ringRoom_48 (by decide) ?_
          exact ih_lp_4 (i + 1) _ (by omega) (by omega) (by rw [hs]; rfl) ls (lv_sub hl [0, 1, 2, 3] rfl)
    exact lp_4 9 0 _ (by omega) (by omega) rfl ls (lv_sub hl [0, 1, 2, 3] rfl)
  · refine lv_bipush (v := (-9)) hx hb dX0_ringRoom_11 (by decide +kernel) ?_
    exact W.iret (v := (-9)) hx hb hr (fun t ht hW => ⟨(-9), rfl, (if_pos c_3).symm, ht⟩) (fun q h => by cases h) dX0_ringRoom_13
set_option maxHeartbeats 400000 in
set_option maxRecDepth 100000 in
theorem metX0_nearDn (l : Launch) (G : va_G) (d : Nat → Nat) (y : Nat) (g : Nat → Int32) (r : Nat) (h12 : r < 12) : Met l yX0_nearestRoom (ws_ yX0_nearestRoom cX0_nearestRoom 5 (some FieldType.int)) ({ frames := 4, cells := 0, slots := 0, locals := 95 } : Room) (va_Pc [.ref y, .int (nI r), .int (-1)] (pR G d ([(y, .inl (d 0, 96, .inl g))]))) (vp_Si (fun x => x = belN (fun r => roomV (gR g r)) (r + 1))) 0 0 (fun _ => False) := by
  refine Met.ofW (cc := cX0_nearestRoom) (maxL := 5) (ret := (some FieldType.int)) (by decide) rfl ?_
  intro p e s m args below meth c s₁ B hml hv
  obtain ⟨rfl, hP, hK⟩ := hv
  have hx := B.exec
  have hb := B.bytes
  have hr := B.returns
  have hts := atoms_spec (ws := (ws_ yX0_nearestRoom cX0_nearestRoom 5 (some FieldType.int))) B.pre
  have hts : ∀ w ∈ lw_all, w.before _ s = true := fun w h => hts w (List.mem_cons_of_mem _ h)
  have hown : s.vm.findClass RX0 = some m.cls := findClass_of_methodNamed B.named
  have hlocks := B.notSynchronized
  have hl := lv_entry ([.ref y, .int (nI r), .int (-1)]) (n := 5) (Nat.le_of_ble_eq_true rfl)
  rw [lg_entry_eq]
  generalize (lg_sl ([.ref y, .int (nI r), .int (-1)]) ++ List.replicate (5 - (lg_sl ([.ref y, .int (nI r), .int (-1)])).length) Slot.unset).toArray = ls at hl ⊢
  have hl : lv_has ls 5 [(0, .ref y), (1, .int (nI r)), (2, .int (-1))] := hl
  refine lv_bipush (v := (-9)) hx hb dX0_nearestRoom_0 (by decide +kernel) ?_
  refine lv_istore_n (lv' := [(3, .int (-9)), (0, .ref y), (1, .int (nI r)), (2, .int (-1))]) hx hb dX0_nearestRoom_2 rfl hl (Nat.le_of_ble_eq_true rfl) rfl (fun ls hl => ?_)
  refine lv_iload_n hx hb dX0_nearestRoom_3 rfl (lv_at hl 2 rfl) ?_
  refine lv_istore (lv' := [(4, .int (nI r)), (3, .int (-9)), (0, .ref y), (1, .int (nI r)), (2, .int (-1))]) hx hb dX0_nearestRoom_4 hl (Nat.le_of_ble_eq_true rfl) rfl (fun ls hl => ?_)
  have er : nI r = nI (r + 1) - 1 := (pk_sub (a := r + 1) (b := 1) (by omega)).symm
  rw [er] at hl
  have lp_1 : ∀ (fu : Nat) (bl : Nat) (v : Int32) (hbl : bl ≤ 12) (hm : bl < fu) (hv : belN (fun r => roomV (gR g r)) (r + 1) = if v = -9 then belN (fun r => roomV (gR g r)) bl else v) (ls : Array Slot) (hl : lv_has ls 5 [(4, .int (nI bl - 1)), (3, .int v), (0, .ref y), (2, .int (-1))]), W p l e (headSpec (ws_ yX0_nearestRoom cX0_nearestRoom 5 (some FieldType.int)) ({ frames := 4, cells := 0, slots := 0, locals := 95 } : Room)).room s m ([.ref y, .int (nI r), .int (-1)] : List Value).toArray below meth c s.heap [] 0 0 (MQ below (vp_Si (fun x => x = belN (fun r => roomV (gR g r)) (r + 1))) ([.ref y, .int (nI r), .int (-1)] : List Value).toArray s 0 0 (fun _ => False)) (F0 m 6 ls []) := by
    intro fu
    induction fu with
    | zero =>
      intro bl v hbl hm hv ls hl
      exfalso; omega
    | succ fu ih_lp_1 =>
      intro bl v hbl hm hv ls hl
      refine lv_iload hx hb dX0_nearestRoom_6 (lv_at hl 0 rfl) ?_
      refine lv_iconst (v := 0) hx hb dX0_nearestRoom_8 (by decide) ?_
      refine lv_bipush (v := 11) hx hb dX0_nearestRoom_9 (by decide +kernel) ?_
      refine y_rS (As := [.int (nI bl - 1), .int 0, .int 11]) (rest := []) ⟨hx, hb, hml, hown, hts⟩ hK (ws := []) (fun _ _ h => by cases h) (metX0_in l G d (nI bl - 1) 0 11) (va_cwS 3 hts (lw_S q204 q205 q35 q206) rfl rfl rfl (by decide +kernel) ⟨Nat.le_of_ble_eq_true rfl, Nat.le_of_ble_eq_true rfl⟩) rfl hl.1 rfl (lv_room (Nat.le_of_ble_eq_true rfl)) dX0_nearestRoom_11 ⟨Nat.le_of_ble_eq_true rfl, Nat.le_of_ble_eq_true rfl⟩ (fun r_2 hr_3 => ?_)
      refine lv_if_eq (tgt := 39) hx hb dX0_nearestRoom_14 (by decide) (fun c_4 => ?_) (fun c_4 => ?_)
      · have c_4 := bI_eq hr_3 c_4
        have b0 : bl = 0 := by
          rcases Nat.eq_zero_or_pos bl with w | w
          · exact w
          · exact absurd (by rw [show nI bl - 1 = nI (bl - 1) from pk_sub (b := 1) (by omega)]; exact nI_inR (n := 11) (by omega) (by decide)) c_4
        refine lv_iload_n hx hb dX0_nearestRoom_39 rfl (lv_at hl 1 rfl) ?_
        exact W.iret (v := v) hx hb hr (fun t ht hW => ⟨v, rfl, by
            rw [hv, b0]
            by_cases w : v = -9
            · rw [if_pos w, w]; rfl
            · rw [if_neg w], ht⟩) (fun q h => by cases h) dX0_nearestRoom_40
      · have c_4 := bI_ne hr_3 c_4
        have b1 : 0 < bl := by
          rcases Nat.eq_zero_or_pos bl with w | w
          · subst w; exact absurd c_4 (by decide)
          · exact w
        have eb : nI bl - 1 = nI (bl - 1) := pk_sub (b := 1) (by omega)
        rw [eb] at hl
        refine lv_iload_n hx hb dX0_nearestRoom_17 rfl (lv_at hl 1 rfl) ?_
        refine lv_bipush (v := (-9)) hx hb dX0_nearestRoom_18 (by decide +kernel) ?_
        refine lv_icmp_ne (tgt := 39) hx hb dX0_nearestRoom_20 (by decide) (fun c_5 => ?_) (fun c_5 => ?_)
        · refine lv_iload_n hx hb dX0_nearestRoom_39 rfl (lv_at hl 1 rfl) ?_
          exact W.iret (v := v) hx hb hr (fun t ht hW => ⟨v, rfl, by rw [hv, if_neg c_5], ht⟩) (fun q h => by cases h) dX0_nearestRoom_40
        · refine lv_aload_n hx hb dX0_nearestRoom_23 rfl (lv_at hl 2 rfl) ?_
          refine lv_iload hx hb dX0_nearestRoom_24 (lv_at hl 0 rfl) ?_
          refine y_rS (As := [.ref y, .int (nI (bl - 1))]) (rest := []) ⟨hx, hb, hml, hown, hts⟩ hK hP (metX0_ringRoom l G d y g (bl - 1) (by omega)) (va_cwS 2 hts (lw_S q372 q373 q35 q374) rfl rfl rfl (by decide +kernel) ⟨Nat.le_of_ble_eq_true rfl, Nat.le_of_ble_eq_true rfl⟩) rfl hl.1 rfl (lv_room (Nat.le_of_ble_eq_true rfl)) dX0_nearestRoom_26 ⟨Nat.le_of_ble_eq_true rfl, Nat.le_of_ble_eq_true rfl⟩ (fun r_6 hr_7 => ?_)
          rw [hr_7]
          refine lv_istore_n (lv' := [(3, .int (roomV (gR g (bl - 1)))), (4, .int (nI (bl - 1))), (0, .ref y), (2, .int (-1))]) hx hb dX0_nearestRoom_29 rfl hl (Nat.le_of_ble_eq_true rfl) rfl (fun ls hl => ?_)
          refine lv_iload hx hb dX0_nearestRoom_30 (lv_at hl 1 rfl) ?_
          refine lv_iload_n hx hb dX0_nearestRoom_32 rfl (lv_at hl 3 rfl) ?_
          refine lv_iadd hx hb dX0_nearestRoom_33 ?_
          refine y_top (y := nI (bl - 1) - 1) (iinc_m1 _) ?_
          refine lv_istore (lv' := [(4, .int (nI (bl - 1) - 1)), (3, .int (roomV (gR g (bl - 1)))), (0, .ref y), (2, .int (-1))]) hx hb dX0_nearestRoom_34 hl (Nat.le_of_ble_eq_true rfl) rfl (fun ls hl => ?_)
          refine lv_goto (tgt := 6) hx hb dX0_nearestRoom_36 (by decide) ?_
          exact ih_lp_1 (bl - 1) _ (by omega) (by omega) (by rw [hv, if_pos c_5, show bl = (bl - 1) + 1 by omega, belN, Nat.add_sub_cancel]) ls (lv_sub hl [0, 1, 2, 3] rfl)
  exact lp_1 14 (r + 1) _ (by omega) (by omega) (if_pos rfl).symm ls (lv_sub hl [0, 1, 2, 4] rfl)
set_option maxHeartbeats 400000 in
set_option maxRecDepth 100000 in
theorem metX0_nearUp (l : Launch) (G : va_G) (d : Nat → Nat) (y : Nat) (g : Nat → Int32) (r : Nat) (h12 : r < 12) : Met l yX0_nearestRoom (ws_ yX0_nearestRoom cX0_nearestRoom 5 (some FieldType.int)) ({ frames := 4, cells := 0, slots := 0, locals := 95 } : Room) (va_Pc [.ref y, .int (nI r), .int 1] (pR G d ([(y, .inl (d 0, 96, .inl g))]))) (vp_Si (fun x => x = abvN (fun r => roomV (gR g r)) (12 - r))) 0 0 (fun _ => False) := by
  refine Met.ofW (cc := cX0_nearestRoom) (maxL := 5) (ret := (some FieldType.int)) (by decide) rfl ?_
  intro p e s m args below meth c s₁ B hml hv
  obtain ⟨rfl, hP, hK⟩ := hv
  have hx := B.exec
  have hb := B.bytes
  have hr := B.returns
  have hts := atoms_spec (ws := (ws_ yX0_nearestRoom cX0_nearestRoom 5 (some FieldType.int))) B.pre
  have hts : ∀ w ∈ lw_all, w.before _ s = true := fun w h => hts w (List.mem_cons_of_mem _ h)
  have hown : s.vm.findClass RX0 = some m.cls := findClass_of_methodNamed B.named
  have hlocks := B.notSynchronized
  have hl := lv_entry ([.ref y, .int (nI r), .int 1]) (n := 5) (Nat.le_of_ble_eq_true rfl)
  rw [lg_entry_eq]
  generalize (lg_sl ([.ref y, .int (nI r), .int 1]) ++ List.replicate (5 - (lg_sl ([.ref y, .int (nI r), .int 1])).length) Slot.unset).toArray = ls at hl ⊢
  have hl : lv_has ls 5 [(0, .ref y), (1, .int (nI r)), (2, .int 1)] := hl
  refine lv_bipush (v := (-9)) hx hb dX0_nearestRoom_0 (by decide +kernel) ?_
  refine lv_istore_n (lv' := [(3, .int (-9)), (0, .ref y), (1, .int (nI r)), (2, .int 1)]) hx hb dX0_nearestRoom_2 rfl hl (Nat.le_of_ble_eq_true rfl) rfl (fun ls hl => ?_)
  refine lv_iload_n hx hb dX0_nearestRoom_3 rfl (lv_at hl 2 rfl) ?_
  refine lv_istore (lv' := [(4, .int (nI r)), (3, .int (-9)), (0, .ref y), (1, .int (nI r)), (2, .int 1)]) hx hb dX0_nearestRoom_4 hl (Nat.le_of_ble_eq_true rfl) rfl (fun ls hl => ?_)
  have lp_1 : ∀ (fu : Nat) (ab : Nat) (v : Int32) (hab : ab ≤ 12) (hm : 12 < ab + fu) (hv : abvN (fun r => roomV (gR g r)) (12 - r) = if v = -9 then abvN (fun r => roomV (gR g r)) (12 - ab) else v) (ls : Array Slot) (hl : lv_has ls 5 [(4, .int (nI ab)), (3, .int v), (0, .ref y), (2, .int 1)]), W p l e (headSpec (ws_ yX0_nearestRoom cX0_nearestRoom 5 (some FieldType.int)) ({ frames := 4, cells := 0, slots := 0, locals := 95 } : Room)).room s m ([.ref y, .int (nI r), .int 1] : List Value).toArray below meth c s.heap [] 0 0 (MQ below (vp_Si (fun x => x = abvN (fun r => roomV (gR g r)) (12 - r))) ([.ref y, .int (nI r), .int 1] : List Value).toArray s 0 0 (fun _ => False)) (F0 m 6 ls []) := by
    intro fu
    induction fu with
    | zero =>
      intro ab v hab hm hv ls hl
      exfalso; omega
    | succ fu ih_lp_1 =>
      intro ab v hab hm hv ls hl
      refine lv_iload hx hb dX0_nearestRoom_6 (lv_at hl 0 rfl) ?_
      refine lv_iconst (v := 0) hx hb dX0_nearestRoom_8 (by decide) ?_
      refine lv_bipush (v := 11) hx hb dX0_nearestRoom_9 (by decide +kernel) ?_
      refine y_rS (As := [.int (nI ab), .int 0, .int 11]) (rest := []) ⟨hx, hb, hml, hown, hts⟩ hK (ws := []) (fun _ _ h => by cases h) (metX0_in l G d (nI ab) 0 11) (va_cwS 3 hts (lw_S q204 q205 q35 q206) rfl rfl rfl (by decide +kernel) ⟨Nat.le_of_ble_eq_true rfl, Nat.le_of_ble_eq_true rfl⟩) rfl hl.1 rfl (lv_room (Nat.le_of_ble_eq_true rfl)) dX0_nearestRoom_11 ⟨Nat.le_of_ble_eq_true rfl, Nat.le_of_ble_eq_true rfl⟩ (fun r_2 hr_3 => ?_)
      refine lv_if_eq (tgt := 39) hx hb dX0_nearestRoom_14 (by decide) (fun c_4 => ?_) (fun c_4 => ?_)
      · have c_4 := bI_eq hr_3 c_4
        have b0 : ab = 12 := by
          rcases Nat.lt_or_ge ab 12 with w | w
          · exact absurd (nI_inR (n := 11) (by omega) (by decide)) c_4
          · omega
        refine lv_iload_n hx hb dX0_nearestRoom_39 rfl (lv_at hl 1 rfl) ?_
        exact W.iret (v := v) hx hb hr (fun t ht hW => ⟨v, rfl, by
            rw [hv, b0]
            by_cases w : v = -9
            · rw [if_pos w, w]; rfl
            · rw [if_neg w], ht⟩) (fun q h => by cases h) dX0_nearestRoom_40
      · have c_4 := bI_ne hr_3 c_4
        have b1 : ab < 12 := by
          have h9 := (nI_leI (a := ab) (b := 11) (by omega) (by omega)).mp c_4.2
          omega
        refine lv_iload_n hx hb dX0_nearestRoom_17 rfl (lv_at hl 1 rfl) ?_
        refine lv_bipush (v := (-9)) hx hb dX0_nearestRoom_18 (by decide +kernel) ?_
        refine lv_icmp_ne (tgt := 39) hx hb dX0_nearestRoom_20 (by decide) (fun c_5 => ?_) (fun c_5 => ?_)
        · refine lv_iload_n hx hb dX0_nearestRoom_39 rfl (lv_at hl 1 rfl) ?_
          exact W.iret (v := v) hx hb hr (fun t ht hW => ⟨v, rfl, by rw [hv, if_neg c_5], ht⟩) (fun q h => by cases h) dX0_nearestRoom_40
        · refine lv_aload_n hx hb dX0_nearestRoom_23 rfl (lv_at hl 2 rfl) ?_
          refine lv_iload hx hb dX0_nearestRoom_24 (lv_at hl 0 rfl) ?_
          refine y_rS (As := [.ref y, .int (nI ab)]) (rest := []) ⟨hx, hb, hml, hown, hts⟩ hK hP (metX0_ringRoom l G d y g ab (by omega)) (va_cwS 2 hts (lw_S q372 q373 q35 q374) rfl rfl rfl (by decide +kernel) ⟨Nat.le_of_ble_eq_true rfl, Nat.le_of_ble_eq_true rfl⟩) rfl hl.1 rfl (lv_room (Nat.le_of_ble_eq_true rfl)) dX0_nearestRoom_26 ⟨Nat.le_of_ble_eq_true rfl, Nat.le_of_ble_eq_true rfl⟩ (fun r_6 hr_7 => ?_)
          rw [hr_7]
          refine lv_istore_n (lv' := [(3, .int (roomV (gR g ab))), (4, .int (nI ab)), (0, .ref y), (2, .int 1)]) hx hb dX0_nearestRoom_29 rfl hl (Nat.le_of_ble_eq_true rfl) rfl (fun ls hl => ?_)
          refine lv_iload hx hb dX0_nearestRoom_30 (lv_at hl 1 rfl) ?_
          refine lv_iload_n hx hb dX0_nearestRoom_32 rfl (lv_at hl 3 rfl) ?_
          refine lv_iadd hx hb dX0_nearestRoom_33 ?_
          refine y_top (y := nI (ab + 1)) (nI_add ab 1) ?_
          refine lv_istore (lv' := [(4, .int (nI (ab + 1))), (3, .int (roomV (gR g ab))), (0, .ref y), (2, .int 1)]) hx hb dX0_nearestRoom_34 hl (Nat.le_of_ble_eq_true rfl) rfl (fun ls hl => ?_)
          refine lv_goto (tgt := 6) hx hb dX0_nearestRoom_36 (by decide) ?_
          exact ih_lp_1 (ab + 1) _ (by omega) (by omega) (by rw [hv, if_pos c_5, abvN_at (r := ab) (by omega), show 12 - (ab + 1) = 11 - ab by omega]) ls (lv_sub hl [0, 1, 2, 3] rfl)
  exact lp_1 13 r _ (by omega) (by omega) (if_pos rfl).symm ls (lv_sub hl [0, 1, 2, 4] rfl)
set_option maxHeartbeats 400000 in
set_option maxRecDepth 100000 in
theorem metX0_roomOf (l : Launch) (G : va_G) (d : Nat → Nat) (y : Nat) (g : Nat → Int32) (most : Int32) (hm01 : most = 0 ∨ most = 1) : Met l yX0_roomOf (ws_ yX0_roomOf cX0_roomOf 9 (some FieldType.int)) ({ frames := 5, cells := 0, slots := 0, locals := 119 } : Room) (va_Pc [.ref y, .int most] (pR G d ([(y, .inl (d 0, 96, .inl g))]))) (vp_Si (fun x => x = allV (fun r => roomV (gR g r)) most)) 0 0 (fun _ => False) := by
  refine Met.ofW (cc := cX0_roomOf) (maxL := 9) (ret := (some FieldType.int)) (by decide) rfl ?_
  intro p e s m args below meth c s₁ B hml hv
  obtain ⟨rfl, hP, hK⟩ := hv
  have hx := B.exec
  have hb := B.bytes
  have hr := B.returns
  have hts := atoms_spec (ws := (ws_ yX0_roomOf cX0_roomOf 9 (some FieldType.int))) B.pre
  have hts : ∀ w ∈ lw_all, w.before _ s = true := fun w h => hts w (List.mem_cons_of_mem _ h)
  have hown : s.vm.findClass RX0 = some m.cls := findClass_of_methodNamed B.named
  have hlocks := B.notSynchronized
  have hl := lv_entry ([.ref y, .int most]) (n := 9) (Nat.le_of_ble_eq_true rfl)
  rw [lg_entry_eq]
  generalize (lg_sl ([.ref y, .int most]) ++ List.replicate (9 - (lg_sl ([.ref y, .int most])).length) Slot.unset).toArray = ls at hl ⊢
  have hl : lv_has ls 9 [(0, .ref y), (1, .int most)] := hl
  refine lv_iconst (v := 0) hx hb dX0_roomOf_0 (by decide) ?_
  refine lv_istore_n (lv' := [(2, .int 0), (0, .ref y), (1, .int most)]) hx hb dX0_roomOf_1 rfl hl (Nat.le_of_ble_eq_true rfl) rfl (fun ls hl => ?_)
  refine lv_iconst (v := 0) hx hb dX0_roomOf_2 (by decide) ?_
  refine lv_istore_n (lv' := [(3, .int 0), (2, .int 0), (0, .ref y), (1, .int most)]) hx hb dX0_roomOf_3 rfl hl (Nat.le_of_ble_eq_true rfl) rfl (fun ls hl => ?_)
  have lp_1 : ∀ (fu : Nat) (i : Nat) (sm : Int32) (hi : i ≤ 12) (hm : 12 < i + fu) (hs : sm = sumR (pickV (fun r => roomV (gR g r)) most) i) (ls : Array Slot) (hl : lv_has ls 9 [(3, .int (nI i)), (2, .int sm), (0, .ref y), (1, .int most)]), W p l e (headSpec (ws_ yX0_roomOf cX0_roomOf 9 (some FieldType.int)) ({ frames := 5, cells := 0, slots := 0, locals := 119 } : Room)).room s m ([.ref y, .int most] : List Value).toArray below meth c s.heap [] 0 0 (MQ below (vp_Si (fun x => x = allV (fun r => roomV (gR g r)) most)) ([.ref y, .int most] : List Value).toArray s 0 0 (fun _ => False)) (F0 m 4 ls []) := by
    intro fu
    induction fu with
    | zero =>
      intro i sm hi hm hs ls hl
      exfalso; omega
    | succ fu ih_lp_1 =>
      intro i sm hi hm hs ls hl
      refine lv_iload_n hx hb dX0_roomOf_4 rfl (lv_at hl 0 rfl) ?_
      refine lv_bipush (v := 12) hx hb dX0_roomOf_5 (by decide +kernel) ?_
      refine lv_icmp_ge (tgt := 103) hx hb dX0_roomOf_7 (by decide) (fun c_2 => ?_) (fun c_2 => ?_)
      · have c_2 : 12 ≤ i := (nI_leI (a := 12) (b := i) (by omega) (by omega)).mp c_2
        refine lv_iload_n hx hb dX0_roomOf_103 rfl (lv_at hl 1 rfl) ?_
        exact W.iret (v := sm) hx hb hr (fun t ht hW => ⟨sm, rfl, by rw [allV, hs, show i = 12 by omega], ht⟩) (fun q h => by cases h) dX0_roomOf_104
      · have c_2 : ¬ 12 ≤ i := fun h => c_2 ((nI_leI (a := 12) (b := i) (by omega) (by omega)).mpr h)
        refine lv_aload_n hx hb dX0_roomOf_10 rfl (lv_at hl 2 rfl) ?_
        refine lv_iload_n hx hb dX0_roomOf_11 rfl (lv_at hl 0 rfl) ?_
        refine lv_iconst (v := (-1)) hx hb dX0_roomOf_12 (by decide) ?_
        refine y_rS (As := [.ref y, .int (nI i), .int (-1)]) (rest := []) ⟨hx, hb, hml, hown, hts⟩ hK hP (metX0_nearDn l G d y g i (by omega)) (va_cwS 3 hts (lw_S q382 q383 q35 q384) rfl rfl rfl (by decide +kernel) ⟨Nat.le_of_ble_eq_true rfl, Nat.le_of_ble_eq_true rfl⟩) rfl hl.1 rfl (lv_room (Nat.le_of_ble_eq_true rfl)) dX0_roomOf_13 ⟨Nat.le_of_ble_eq_true rfl, Nat.le_of_ble_eq_true rfl⟩ (fun r_3 hr_4 => ?_)
        rw [hr_4]
        refine lv_istore (lv' := [(4, .int (belN (fun r => roomV (gR g r)) (i + 1))), (3, .int (nI i)), (2, .int sm), (0, .ref y), (1, .int most)]) hx hb dX0_roomOf_16 hl (Nat.le_of_ble_eq_true rfl) rfl (fun ls hl => ?_)
        refine lv_aload_n hx hb dX0_roomOf_18 rfl (lv_at hl 3 rfl) ?_
        refine lv_iload_n hx hb dX0_roomOf_19 rfl (lv_at hl 1 rfl) ?_
        refine lv_iconst (v := 1) hx hb dX0_roomOf_20 (by decide) ?_
        refine y_rS (As := [.ref y, .int (nI i), .int 1]) (rest := []) ⟨hx, hb, hml, hown, hts⟩ hK hP (metX0_nearUp l G d y g i (by omega)) (va_cwS 3 hts (lw_S q382 q383 q35 q384) rfl rfl rfl (by decide +kernel) ⟨Nat.le_of_ble_eq_true rfl, Nat.le_of_ble_eq_true rfl⟩) rfl hl.1 rfl (lv_room (Nat.le_of_ble_eq_true rfl)) dX0_roomOf_21 ⟨Nat.le_of_ble_eq_true rfl, Nat.le_of_ble_eq_true rfl⟩ (fun r_5 hr_6 => ?_)
        rw [hr_6]
        refine lv_istore (lv' := [(5, .int (abvN (fun r => roomV (gR g r)) (12 - i))), (4, .int (belN (fun r => roomV (gR g r)) (i + 1))), (3, .int (nI i)), (2, .int sm), (0, .ref y), (1, .int most)]) hx hb dX0_roomOf_24 hl (Nat.le_of_ble_eq_true rfl) rfl (fun ls hl => ?_)
        have hj_7 : ∀ (one : Int32) (h1 : one = if belN (fun r => roomV (gR g r)) (i + 1) = -9 then abvN (fun r => roomV (gR g r)) (12 - i) else belN (fun r => roomV (gR g r)) (i + 1)), W p l e (headSpec (ws_ yX0_roomOf cX0_roomOf 9 (some FieldType.int)) ({ frames := 5, cells := 0, slots := 0, locals := 119 } : Room)).room s m ([.ref y, .int most] : List Value).toArray below meth c s.heap [] 0 0 (MQ below (vp_Si (fun x => x = allV (fun r => roomV (gR g r)) most)) ([.ref y, .int most] : List Value).toArray s 0 0 (fun _ => False)) (F0 m 40 ls [.int one]) := by
          intro one h1
          refine lv_istore (lv' := [(6, .int one), (5, .int (abvN (fun r => roomV (gR g r)) (12 - i))), (4, .int (belN (fun r => roomV (gR g r)) (i + 1))), (3, .int (nI i)), (2, .int sm), (0, .ref y), (1, .int most)]) hx hb dX0_roomOf_40 hl (Nat.le_of_ble_eq_true rfl) rfl (fun ls hl => ?_)
          have hj_8 : ∀ (oth : Int32) (h2 : oth = if abvN (fun r => roomV (gR g r)) (12 - i) = -9 then belN (fun r => roomV (gR g r)) (i + 1) else abvN (fun r => roomV (gR g r)) (12 - i)), W p l e (headSpec (ws_ yX0_roomOf cX0_roomOf 9 (some FieldType.int)) ({ frames := 5, cells := 0, slots := 0, locals := 119 } : Room)).room s m ([.ref y, .int most] : List Value).toArray below meth c s.heap [] 0 0 (MQ below (vp_Si (fun x => x = allV (fun r => roomV (gR g r)) most)) ([.ref y, .int most] : List Value).toArray s 0 0 (fun _ => False)) (F0 m 56 ls [.int oth]) := by
            intro oth h2
            refine lv_istore (lv' := [(7, .int oth), (6, .int one), (5, .int (abvN (fun r => roomV (gR g r)) (12 - i))), (4, .int (belN (fun r => roomV (gR g r)) (i + 1))), (3, .int (nI i)), (2, .int sm), (0, .ref y), (1, .int most)]) hx hb dX0_roomOf_56 hl (Nat.le_of_ble_eq_true rfl) rfl (fun ls hl => ?_)
            have hj_9 : ∀ (v : Int32) (h3 : v = if most = 0 then (if oth < one then oth else one) else (if one < oth then oth else one)), W p l e (headSpec (ws_ yX0_roomOf cX0_roomOf 9 (some FieldType.int)) ({ frames := 5, cells := 0, slots := 0, locals := 119 } : Room)).room s m ([.ref y, .int most] : List Value).toArray below meth c s.heap [] 0 0 (MQ below (vp_Si (fun x => x = allV (fun r => roomV (gR g r)) most)) ([.ref y, .int most] : List Value).toArray s 0 0 (fun _ => False)) (F0 m 79 ls [.int v]) := by
              intro v h3
              refine lv_istore (lv' := [(8, .int v), (7, .int oth), (6, .int one), (5, .int (abvN (fun r => roomV (gR g r)) (12 - i))), (4, .int (belN (fun r => roomV (gR g r)) (i + 1))), (3, .int (nI i)), (2, .int sm), (0, .ref y), (1, .int most)]) hx hb dX0_roomOf_79 hl (Nat.le_of_ble_eq_true rfl) rfl (fun ls hl => ?_)
              refine lv_iload_n hx hb dX0_roomOf_81 rfl (lv_at hl 6 rfl) ?_
              refine lv_iload hx hb dX0_roomOf_82 (lv_at hl 0 rfl) ?_
              refine lv_bipush (v := (-9)) hx hb dX0_roomOf_84 (by decide +kernel) ?_
              refine lv_icmp_ne (tgt := 93) hx hb dX0_roomOf_86 (by decide) (fun c_10 => ?_) (fun c_10 => ?_)
              · refine lv_iload hx hb dX0_roomOf_93 (lv_at hl 0 rfl) ?_
                refine lv_iadd hx hb dX0_roomOf_95 ?_
                refine lv_istore_n (lv' := [(2, .int (sm + v)), (8, .int v), (7, .int oth), (6, .int one), (5, .int (abvN (fun r => roomV (gR g r)) (12 - i))), (4, .int (belN (fun r => roomV (gR g r)) (i + 1))), (3, .int (nI i)), (0, .ref y), (1, .int most)]) hx hb dX0_roomOf_96 rfl hl (Nat.le_of_ble_eq_true rfl) rfl (fun ls hl => ?_)
                refine lv_iinc (v := nI (i + 1)) (lv' := [(3, .int (nI (i + 1))), (2, .int (sm + v)), (8, .int v), (7, .int oth), (6, .int one), (5, .int (abvN (fun r => roomV (gR g r)) (12 - i))), (4, .int (belN (fun r => roomV (gR g r)) (i + 1))), (0, .ref y), (1, .int most)]) hx hb dX0_roomOf_97 hl (k := 6) rfl (nI_add i 1) (Nat.le_of_ble_eq_true rfl) rfl (fun ls hl => ?_)
                refine lv_goto (tgt := 4) hx hb dX0_roomOf_100 (by decide) ?_
                exact ih_lp_1 (i + 1) _ (by omega) (by omega) (by rw [hs]; show _ = sumR _ i + pickV (fun r => roomV (gR g r)) most i; rw [← pick_eq (by omega) hm01 h1 h2 h3, if_neg c_10]) ls (lv_sub hl [0, 1, 7, 8] rfl)
              · refine lv_iconst (v := 0) hx hb dX0_roomOf_89 (by decide) ?_
                refine lv_goto (tgt := 95) hx hb dX0_roomOf_90 (by decide) ?_
                refine lv_iadd hx hb dX0_roomOf_95 ?_
                refine lv_istore_n (lv' := [(2, .int (sm + 0)), (8, .int v), (7, .int oth), (6, .int one), (5, .int (abvN (fun r => roomV (gR g r)) (12 - i))), (4, .int (belN (fun r => roomV (gR g r)) (i + 1))), (3, .int (nI i)), (0, .ref y), (1, .int most)]) hx hb dX0_roomOf_96 rfl hl (Nat.le_of_ble_eq_true rfl) rfl (fun ls hl => ?_)
                refine lv_iinc (v := nI (i + 1)) (lv' := [(3, .int (nI (i + 1))), (2, .int (sm + 0)), (8, .int v), (7, .int oth), (6, .int one), (5, .int (abvN (fun r => roomV (gR g r)) (12 - i))), (4, .int (belN (fun r => roomV (gR g r)) (i + 1))), (0, .ref y), (1, .int most)]) hx hb dX0_roomOf_97 hl (k := 6) rfl (nI_add i 1) (Nat.le_of_ble_eq_true rfl) rfl (fun ls hl => ?_)
                refine lv_goto (tgt := 4) hx hb dX0_roomOf_100 (by decide) ?_
                exact ih_lp_1 (i + 1) _ (by omega) (by omega) (by rw [hs]; show _ = sumR _ i + pickV (fun r => roomV (gR g r)) most i; rw [← pick_eq (by omega) hm01 h1 h2 h3, if_pos c_10]) ls (lv_sub hl [0, 1, 7, 8] rfl)
            refine lv_iload_n hx hb dX0_roomOf_58 rfl (lv_at hl 7 rfl) ?_
            refine lv_if_eq (tgt := 72) hx hb dX0_roomOf_59 (by decide) (fun c_11 => ?_) (fun c_11 => ?_)
            · refine lv_iload hx hb dX0_roomOf_72 (lv_at hl 1 rfl) ?_
              refine lv_iload hx hb dX0_roomOf_74 (lv_at hl 0 rfl) ?_
              refine va_mmin hx hb (by rw [hml, hl.1]) hown (hts _ q385) (hts _ q386) (hts _ q40) (hts _ q387) (Nat.le_of_ble_eq_true rfl) (Nat.le_of_ble_eq_true rfl) (Nat.le_of_ble_eq_true rfl) (Nat.le_of_ble_eq_true rfl) dX0_roomOf_76 ?_
              exact hj_9 _ (if_pos c_11).symm
            · refine lv_iload hx hb dX0_roomOf_62 (lv_at hl 1 rfl) ?_
              refine lv_iload hx hb dX0_roomOf_64 (lv_at hl 0 rfl) ?_
              refine va_mmax hx hb (by rw [hml, hl.1]) hown (hts _ q239) (hts _ q240) (hts _ q40) (hts _ q241) (Nat.le_of_ble_eq_true rfl) (Nat.le_of_ble_eq_true rfl) (Nat.le_of_ble_eq_true rfl) (Nat.le_of_ble_eq_true rfl) dX0_roomOf_66 ?_
              refine lv_goto (tgt := 79) hx hb dX0_roomOf_69 (by decide) ?_
              exact hj_9 _ (if_neg c_11).symm
          refine lv_iload hx hb dX0_roomOf_42 (lv_at hl 1 rfl) ?_
          refine lv_bipush (v := (-9)) hx hb dX0_roomOf_44 (by decide +kernel) ?_
          refine lv_icmp_ne (tgt := 54) hx hb dX0_roomOf_46 (by decide) (fun c_12 => ?_) (fun c_12 => ?_)
          · refine lv_iload hx hb dX0_roomOf_54 (lv_at hl 1 rfl) ?_
            exact hj_8 _ (if_neg c_12).symm
          · refine lv_iload hx hb dX0_roomOf_49 (lv_at hl 2 rfl) ?_
            refine lv_goto (tgt := 56) hx hb dX0_roomOf_51 (by decide) ?_
            exact hj_8 _ (if_pos c_12).symm
        refine lv_iload hx hb dX0_roomOf_26 (lv_at hl 1 rfl) ?_
        refine lv_bipush (v := (-9)) hx hb dX0_roomOf_28 (by decide +kernel) ?_
        refine lv_icmp_ne (tgt := 38) hx hb dX0_roomOf_30 (by decide) (fun c_13 => ?_) (fun c_13 => ?_)
        · refine lv_iload hx hb dX0_roomOf_38 (lv_at hl 1 rfl) ?_
          exact hj_7 _ (if_neg c_13).symm
        · refine lv_iload hx hb dX0_roomOf_33 (lv_at hl 0 rfl) ?_
          refine lv_goto (tgt := 40) hx hb dX0_roomOf_35 (by decide) ?_
          exact hj_7 _ (if_pos c_13).symm
  exact lp_1 13 0 _ (by omega) (by omega) rfl ls (lv_sub hl [0, 1, 2, 3] rfl)
