set_option maxHeartbeats 400000 in
set_option maxRecDepth 100000 in
theorem metX1_asked (l : Launch) (G : va_G) (d : Nat → Nat) (b : Nat → Nat) (J : Nat → Int32) (E : Nat → Nat → Int32) : Met l yX1_asked (ws_ yX1_asked cX1_asked 1 (some FieldType.int)) ({ frames := 0, cells := 0, slots := 0, locals := 0 } : Room) (va_Pc [.ref (b 0)] (pR G d (MW b J E d))) (vp_Si (fun x => x = J 2)) 0 0 (fun _ => False) := by
  refine Met.ofW (cc := cX1_asked) (maxL := 1) (ret := (some FieldType.int)) (by decide) rfl ?_
  intro p e s m args below meth c s₁ B hml hv
  obtain ⟨rfl, hP, hK⟩ := hv
  have hx := B.exec
  have hb := B.bytes
  have hr := B.returns
  have hts := atoms_spec (ws := (ws_ yX1_asked cX1_asked 1 (some FieldType.int))) B.pre
  have hts : ∀ w ∈ lw_all, w.before _ s = true := fun w h => hts w (List.mem_cons_of_mem _ h)
  have hown : s.vm.findClass RX1 = some m.cls := findClass_of_methodNamed B.named
  have hlocks := B.notSynchronized
  have hl := lv_entry ([.ref (b 0)]) (n := 1) (Nat.le_of_ble_eq_true rfl)
  rw [lg_entry_eq]
  generalize (lg_sl ([.ref (b 0)]) ++ List.replicate (1 - (lg_sl ([.ref (b 0)])).length) Slot.unset).toArray = ls at hl ⊢
  have hl : lv_has ls 1 [(0, .ref (b 0))] := hl
  refine lv_aload_n hx hb dX1_asked_0 rfl (lv_at hl 0 rfl) ?_
  refine va_get (D := G) (ci := 1) (v := .int (J 2)) (C := RX1) (T := TX1) (N := 33) hx hb hts in_X1 hown hK hP 0 rfl rfl 2 (Nat.le_of_ble_eq_true rfl) (hts _ q888) (fun _ h9 => h9) rfl dX1_asked_1 ?_
  exact W.iret (v := J 2) hx hb hr (fun t ht hW => ⟨J 2, rfl, rfl, ht⟩) (fun q h => by cases h) dX1_asked_4
set_option maxHeartbeats 400000 in
set_option maxRecDepth 100000 in
theorem metX1_finding (l : Launch) (G : va_G) (d : Nat → Nat) (b : Nat → Nat) (J : Nat → Int32) (E : Nat → Nat → Int32) : Met l yX1_finding (ws_ yX1_finding cX1_finding 1 (some FieldType.int)) ({ frames := 0, cells := 0, slots := 0, locals := 0 } : Room) (va_Pc [.ref (b 0)] (pR G d (MW b J E d))) (vp_Si (fun x => x = J 0)) 0 0 (fun _ => False) := by
  refine Met.ofW (cc := cX1_finding) (maxL := 1) (ret := (some FieldType.int)) (by decide) rfl ?_
  intro p e s m args below meth c s₁ B hml hv
  obtain ⟨rfl, hP, hK⟩ := hv
  have hx := B.exec
  have hb := B.bytes
  have hr := B.returns
  have hts := atoms_spec (ws := (ws_ yX1_finding cX1_finding 1 (some FieldType.int))) B.pre
  have hts : ∀ w ∈ lw_all, w.before _ s = true := fun w h => hts w (List.mem_cons_of_mem _ h)
  have hown : s.vm.findClass RX1 = some m.cls := findClass_of_methodNamed B.named
  have hlocks := B.notSynchronized
  have hl := lv_entry ([.ref (b 0)]) (n := 1) (Nat.le_of_ble_eq_true rfl)
  rw [lg_entry_eq]
  generalize (lg_sl ([.ref (b 0)]) ++ List.replicate (1 - (lg_sl ([.ref (b 0)])).length) Slot.unset).toArray = ls at hl ⊢
  have hl : lv_has ls 1 [(0, .ref (b 0))] := hl
  refine lv_aload_n hx hb dX1_finding_0 rfl (lv_at hl 0 rfl) ?_
  refine va_get (D := G) (ci := 1) (v := .int (J 0)) (C := RX1) (T := TX1) (N := 33) hx hb hts in_X1 hown hK hP 0 rfl rfl 0 (Nat.le_of_ble_eq_true rfl) (hts _ q886) (fun _ h9 => h9) rfl dX1_finding_1 ?_
  exact W.iret (v := J 0) hx hb hr (fun t ht hW => ⟨J 0, rfl, rfl, ht⟩) (fun q h => by cases h) dX1_finding_4
set_option maxHeartbeats 400000 in
set_option maxRecDepth 100000 in
theorem metX1_tries (l : Launch) (G : va_G) (d : Nat → Nat) (b : Nat → Nat) (J : Nat → Int32) (E : Nat → Nat → Int32) : Met l yX1_tries (ws_ yX1_tries cX1_tries 1 (some FieldType.int)) ({ frames := 0, cells := 0, slots := 0, locals := 0 } : Room) (va_Pc [.ref (b 0)] (pR G d (MW b J E d))) (vp_Si (fun x => x = J 26)) 0 0 (fun _ => False) := by
  refine Met.ofW (cc := cX1_tries) (maxL := 1) (ret := (some FieldType.int)) (by decide) rfl ?_
  intro p e s m args below meth c s₁ B hml hv
  obtain ⟨rfl, hP, hK⟩ := hv
  have hx := B.exec
  have hb := B.bytes
  have hr := B.returns
  have hts := atoms_spec (ws := (ws_ yX1_tries cX1_tries 1 (some FieldType.int))) B.pre
  have hts : ∀ w ∈ lw_all, w.before _ s = true := fun w h => hts w (List.mem_cons_of_mem _ h)
  have hown : s.vm.findClass RX1 = some m.cls := findClass_of_methodNamed B.named
  have hlocks := B.notSynchronized
  have hl := lv_entry ([.ref (b 0)]) (n := 1) (Nat.le_of_ble_eq_true rfl)
  rw [lg_entry_eq]
  generalize (lg_sl ([.ref (b 0)]) ++ List.replicate (1 - (lg_sl ([.ref (b 0)])).length) Slot.unset).toArray = ls at hl ⊢
  have hl : lv_has ls 1 [(0, .ref (b 0))] := hl
  refine lv_aload_n hx hb dX1_tries_0 rfl (lv_at hl 0 rfl) ?_
  refine va_get (D := G) (ci := 1) (v := .int (J 26)) (C := RX1) (T := TX1) (N := 33) hx hb hts in_X1 hown hK hP 0 rfl rfl 26 (Nat.le_of_ble_eq_true rfl) (hts _ q912) (fun _ h9 => h9) rfl dX1_tries_1 ?_
  exact W.iret (v := J 26) hx hb hr (fun t ht hW => ⟨J 26, rfl, rfl, ht⟩) (fun q h => by cases h) dX1_tries_4
set_option maxHeartbeats 400000 in
set_option maxRecDepth 100000 in
theorem metX1_findings (l : Launch) (G : va_G) (d : Nat → Nat) (b : Nat → Nat) (J : Nat → Int32) (E : Nat → Nat → Int32) (w : Int32) : Met l yX1_findings (ws_ yX1_findings cX1_findings 2 (some FieldType.int)) ({ frames := 1, cells := 0, slots := 0, locals := 22 } : Room) (va_Pc [.ref (b 0), .int w] (pR G d (MW b J E d))) (vp_Si (fun x => x = findingsOp (E 1) w)) 0 0 (fun _ => False) := by
  refine Met.ofW (cc := cX1_findings) (maxL := 2) (ret := (some FieldType.int)) (by decide) rfl ?_
  intro p e s m args below meth c s₁ B hml hv
  obtain ⟨rfl, hP, hK⟩ := hv
  have hx := B.exec
  have hb := B.bytes
  have hr := B.returns
  have hts := atoms_spec (ws := (ws_ yX1_findings cX1_findings 2 (some FieldType.int))) B.pre
  have hts : ∀ w ∈ lw_all, w.before _ s = true := fun w h => hts w (List.mem_cons_of_mem _ h)
  have hown : s.vm.findClass RX1 = some m.cls := findClass_of_methodNamed B.named
  have hlocks := B.notSynchronized
  have hl := lv_entry ([.ref (b 0), .int w]) (n := 2) (Nat.le_of_ble_eq_true rfl)
  rw [lg_entry_eq]
  generalize (lg_sl ([.ref (b 0), .int w]) ++ List.replicate (2 - (lg_sl ([.ref (b 0), .int w])).length) Slot.unset).toArray = ls at hl ⊢
  have hl : lv_has ls 2 [(0, .ref (b 0)), (1, .int w)] := hl
  refine lv_iload_n hx hb dX1_findings_0 rfl (lv_at hl 1 rfl) ?_
  refine lv_iconst (v := 1) hx hb dX1_findings_1 (by decide) ?_
  refine lv_iconst (v := 5) hx hb dX1_findings_2 (by decide) ?_
  refine y_rS (As := [.int w, .int 1, .int 5]) (rest := []) ⟨hx, hb, hml, hown, hts⟩ hK (ws := []) (fun _ _ h => by cases h) (metX1_in l G d w 1 5) (va_cwS 3 hts (lw_S q994 q995 q39 q996) rfl rfl rfl (by decide +kernel) ⟨Nat.le_of_ble_eq_true rfl, Nat.le_of_ble_eq_true rfl⟩) rfl hl.1 rfl (lv_room (Nat.le_of_ble_eq_true rfl)) dX1_findings_3 ⟨Nat.le_of_ble_eq_true rfl, Nat.le_of_ble_eq_true rfl⟩ (fun r_1 hr_2 => ?_)
  refine lv_if_eq (tgt := 18) hx hb dX1_findings_6 (by decide) (fun c_3 => ?_) (fun c_3 => ?_)
  · have c_3 := bI_eq hr_2 c_3
    refine lv_iconst (v := (-1)) hx hb dX1_findings_18 (by decide) ?_
    exact W.iret (v := (-1)) hx hb hr (fun t ht hW => ⟨(-1), rfl, (if_neg c_3).symm, ht⟩) (fun q h => by cases h) dX1_findings_19
  · have c_3 := bI_ne hr_2 c_3
    obtain ⟨q, hq, rfl⟩ := inR_n (n := 5) (by decide) ⟨Int32.le_trans (by decide) c_3.1, c_3.2⟩
    refine lv_aload_n hx hb dX1_findings_9 rfl (lv_at hl 0 rfl) ?_
    refine va_get (D := G) (ci := 1) (v := .ref (b 1)) (C := RX1) (T := TX1) (N := 33) hx hb hts in_X1 hown hK hP 0 rfl rfl 1 (Nat.le_of_ble_eq_true rfl) (hts _ q887) (fun _ h9 => h9) rfl dX1_findings_10 ?_
    refine lv_iload_n hx hb dX1_findings_13 rfl (lv_at hl 1 rfl) ?_
    refine y_iald (N := q) (f := E 1) hx hb hK hP 1 0 rfl rfl rfl (by omega) (by decide) dX1_findings_14 ?_
    refine lv_goto (tgt := 19) hx hb dX1_findings_15 (by decide) ?_
    exact W.iret (v := (E 1) q) hx hb hr (fun t ht hW => ⟨(E 1) q, rfl, by unfold findingsOp; rw [if_pos c_3, cl_nI (show q < 2 ^ 31 by omega)], ht⟩) (fun q h => by cases h) dX1_findings_19
set_option maxHeartbeats 400000 in
set_option maxRecDepth 100000 in
theorem metX1_legAt (l : Launch) (G : va_G) (d : Nat → Nat) (b : Nat → Nat) (J : Nat → Int32) (E : Nat → Nat → Int32) (bm : Nat) (w : Int32) (hb16 : bm ≤ 16) (hbm : J 24 = bmV bm) : Met l yX1_legAt (ws_ yX1_legAt cX1_legAt 2 (some FieldType.int)) ({ frames := 1, cells := 0, slots := 0, locals := 22 } : Room) (va_Pc [.ref (b 0), .int w] (pR G d (MW b J E d))) (vp_Si (fun x => x = legAtV (E 23) bm w)) 0 0 (fun _ => False) := by
  refine Met.ofW (cc := cX1_legAt) (maxL := 2) (ret := (some FieldType.int)) (by decide) rfl ?_
  intro p e s m args below meth c s₁ B hml hv
  obtain ⟨rfl, hP, hK⟩ := hv
  have hx := B.exec
  have hb := B.bytes
  have hr := B.returns
  have hts := atoms_spec (ws := (ws_ yX1_legAt cX1_legAt 2 (some FieldType.int))) B.pre
  have hts : ∀ w ∈ lw_all, w.before _ s = true := fun w h => hts w (List.mem_cons_of_mem _ h)
  have hown : s.vm.findClass RX1 = some m.cls := findClass_of_methodNamed B.named
  have hlocks := B.notSynchronized
  have hl := lv_entry ([.ref (b 0), .int w]) (n := 2) (Nat.le_of_ble_eq_true rfl)
  rw [lg_entry_eq]
  generalize (lg_sl ([.ref (b 0), .int w]) ++ List.replicate (2 - (lg_sl ([.ref (b 0), .int w])).length) Slot.unset).toArray = ls at hl ⊢
  have hl : lv_has ls 2 [(0, .ref (b 0)), (1, .int w)] := hl
  rcases Nat.eq_zero_or_pos bm with z0 | z0
  · have hb9 : J 24 = -9 := by rw [hbm, bmV, if_pos z0]
    refine lv_aload_n hx hb dX1_legAt_0 rfl (lv_at hl 0 rfl) ?_
    refine va_get (D := G) (ci := 1) (v := .int (J 24)) (C := RX1) (T := TX1) (N := 33) hx hb hts in_X1 hown hK hP 0 rfl rfl 24 (Nat.le_of_ble_eq_true rfl) (hts _ q910) (fun _ h9 => h9) rfl dX1_legAt_1 ?_
    refine y_top (y := (-9)) hb9 ?_
    refine lv_if_ge (tgt := 12) hx hb dX1_legAt_4 (by decide) (fun c_1 => ?_) (fun c_1 => ?_)
    · exact absurd c_1 (by decide)
    · refine lv_bipush (v := (-9)) hx hb dX1_legAt_7 (by decide +kernel) ?_
      refine lv_goto (tgt := 49) hx hb dX1_legAt_9 (by decide) ?_
      exact W.iret (v := (-9)) hx hb hr (fun t ht hW => ⟨(-9), rfl, by unfold legAtV; rw [if_pos z0], ht⟩) (fun q h => by cases h) dX1_legAt_49
  · have hb9 : J 24 = nI bm := by rw [hbm, bmV, if_neg (by omega)]
    refine lv_aload_n hx hb dX1_legAt_0 rfl (lv_at hl 0 rfl) ?_
    refine va_get (D := G) (ci := 1) (v := .int (J 24)) (C := RX1) (T := TX1) (N := 33) hx hb hts in_X1 hown hK hP 0 rfl rfl 24 (Nat.le_of_ble_eq_true rfl) (hts _ q910) (fun _ h9 => h9) rfl dX1_legAt_1 ?_
    refine y_top (y := nI bm) hb9 ?_
    refine lv_if_ge (tgt := 12) hx hb dX1_legAt_4 (by decide) (fun c_2 => ?_) (fun c_2 => ?_)
    · refine lv_iload_n hx hb dX1_legAt_12 rfl (lv_at hl 1 rfl) ?_
      refine lv_iconst (v := (-1)) hx hb dX1_legAt_13 (by decide) ?_
      refine lv_icmp_ne (tgt := 24) hx hb dX1_legAt_14 (by decide) (fun c_3 => ?_) (fun c_3 => ?_)
      · refine lv_iload_n hx hb dX1_legAt_24 rfl (lv_at hl 1 rfl) ?_
        refine lv_iconst (v := 0) hx hb dX1_legAt_25 (by decide) ?_
        refine lv_aload_n hx hb dX1_legAt_26 rfl (lv_at hl 0 rfl) ?_
        refine va_get (D := G) (ci := 1) (v := .int (J 24)) (C := RX1) (T := TX1) (N := 33) hx hb hts in_X1 hown hK hP 0 rfl rfl 24 (Nat.le_of_ble_eq_true rfl) (hts _ q910) (fun _ h9 => h9) rfl dX1_legAt_27 ?_
        refine y_top (y := nI bm) hb9 ?_
        refine lv_iconst (v := 1) hx hb dX1_legAt_30 (by decide) ?_
        refine lv_isub hx hb dX1_legAt_31 ?_
        refine y_rS (As := [.int w, .int 0, .int ((nI bm) - 1)]) (rest := []) ⟨hx, hb, hml, hown, hts⟩ hK (ws := []) (fun _ _ h => by cases h) (metX1_in l G d w 0 ((nI bm) - 1)) (va_cwS 3 hts (lw_S q994 q995 q39 q996) rfl rfl rfl (by decide +kernel) ⟨Nat.le_of_ble_eq_true rfl, Nat.le_of_ble_eq_true rfl⟩) rfl hl.1 rfl (lv_room (Nat.le_of_ble_eq_true rfl)) dX1_legAt_32 ⟨Nat.le_of_ble_eq_true rfl, Nat.le_of_ble_eq_true rfl⟩ (fun r_4 hr_5 => ?_)
        refine lv_if_eq (tgt := 47) hx hb dX1_legAt_35 (by decide) (fun c_6 => ?_) (fun c_6 => ?_)
        · have c_6 := bI_eq hr_5 c_6
          refine lv_bipush (v := (-9)) hx hb dX1_legAt_47 (by decide +kernel) ?_
          exact W.iret (v := (-9)) hx hb hr (fun t ht hW => ⟨(-9), rfl, by unfold legAtV; rw [if_neg (by omega), if_neg c_3, if_neg c_6], ht⟩) (fun q h => by cases h) dX1_legAt_49
        · have c_6 := bI_ne hr_5 c_6
          obtain ⟨q, hq, rfl⟩ := inR_p (n := bm) (by omega) c_6
          refine lv_aload_n hx hb dX1_legAt_38 rfl (lv_at hl 0 rfl) ?_
          refine va_get (D := G) (ci := 1) (v := .ref (b 23)) (C := RX1) (T := TX1) (N := 33) hx hb hts in_X1 hown hK hP 0 rfl rfl 23 (Nat.le_of_ble_eq_true rfl) (hts _ q909) (fun _ h9 => h9) rfl dX1_legAt_39 ?_
          refine lv_iload_n hx hb dX1_legAt_42 rfl (lv_at hl 1 rfl) ?_
          refine y_iald (N := q) (f := E 23) hx hb hK hP 19 0 rfl rfl rfl (by omega) (by decide) dX1_legAt_43 ?_
          refine lv_goto (tgt := 49) hx hb dX1_legAt_44 (by decide) ?_
          exact W.iret (v := (E 23) q) hx hb hr (fun t ht hW => ⟨(E 23) q, rfl, by unfold legAtV; rw [if_neg (by omega), if_neg c_3, if_pos c_6, cl_nI (show q < 2 ^ 31 by omega)], ht⟩) (fun q h => by cases h) dX1_legAt_49
      · refine lv_aload_n hx hb dX1_legAt_17 rfl (lv_at hl 0 rfl) ?_
        refine va_get (D := G) (ci := 1) (v := .int (J 24)) (C := RX1) (T := TX1) (N := 33) hx hb hts in_X1 hown hK hP 0 rfl rfl 24 (Nat.le_of_ble_eq_true rfl) (hts _ q910) (fun _ h9 => h9) rfl dX1_legAt_18 ?_
        refine y_top (y := nI bm) hb9 ?_
        refine lv_goto (tgt := 49) hx hb dX1_legAt_21 (by decide) ?_
        exact W.iret (v := nI bm) hx hb hr (fun t ht hW => ⟨nI bm, rfl, by unfold legAtV; rw [if_neg (by omega), if_pos c_3], ht⟩) (fun q h => by cases h) dX1_legAt_49
    · exact absurd (nI_pos' (by omega)) c_2
set_option maxHeartbeats 400000 in
set_option maxRecDepth 100000 in
theorem metX1_cuts (l : Launch) (G : va_G) (d : Nat → Nat) (b : Nat → Nat) (J : Nat → Int32) (E : Nat → Nat → Int32) (bm : Nat) (hb16 : bm ≤ 16) (hbm : J 24 = bmV bm) : Met l yX1_cuts (ws_ yX1_cuts cX1_cuts 1 (some FieldType.int)) ({ frames := 0, cells := 0, slots := 0, locals := 0 } : Room) (va_Pc [.ref (b 0)] (pR G d (MW b J E d))) (vp_Si (fun x => x = cutsV bm (J 25))) 0 0 (fun _ => False) := by
  refine Met.ofW (cc := cX1_cuts) (maxL := 1) (ret := (some FieldType.int)) (by decide) rfl ?_
  intro p e s m args below meth c s₁ B hml hv
  obtain ⟨rfl, hP, hK⟩ := hv
  have hx := B.exec
  have hb := B.bytes
  have hr := B.returns
  have hts := atoms_spec (ws := (ws_ yX1_cuts cX1_cuts 1 (some FieldType.int))) B.pre
  have hts : ∀ w ∈ lw_all, w.before _ s = true := fun w h => hts w (List.mem_cons_of_mem _ h)
  have hown : s.vm.findClass RX1 = some m.cls := findClass_of_methodNamed B.named
  have hlocks := B.notSynchronized
  have hl := lv_entry ([.ref (b 0)]) (n := 1) (Nat.le_of_ble_eq_true rfl)
  rw [lg_entry_eq]
  generalize (lg_sl ([.ref (b 0)]) ++ List.replicate (1 - (lg_sl ([.ref (b 0)])).length) Slot.unset).toArray = ls at hl ⊢
  have hl : lv_has ls 1 [(0, .ref (b 0))] := hl
  rcases Nat.eq_zero_or_pos bm with z0 | z0
  · have hb9 : J 24 = -9 := by rw [hbm, bmV, if_pos z0]
    refine lv_aload_n hx hb dX1_cuts_0 rfl (lv_at hl 0 rfl) ?_
    refine va_get (D := G) (ci := 1) (v := .int (J 24)) (C := RX1) (T := TX1) (N := 33) hx hb hts in_X1 hown hK hP 0 rfl rfl 24 (Nat.le_of_ble_eq_true rfl) (hts _ q910) (fun _ h9 => h9) rfl dX1_cuts_1 ?_
    refine y_top (y := (-9)) hb9 ?_
    refine lv_if_ge (tgt := 12) hx hb dX1_cuts_4 (by decide) (fun c_1 => ?_) (fun c_1 => ?_)
    · exact absurd c_1 (by decide)
    · refine lv_bipush (v := (-9)) hx hb dX1_cuts_7 (by decide +kernel) ?_
      refine lv_goto (tgt := 16) hx hb dX1_cuts_9 (by decide) ?_
      exact W.iret (v := (-9)) hx hb hr (fun t ht hW => ⟨(-9), rfl, by unfold cutsV; rw [if_pos z0], ht⟩) (fun q h => by cases h) dX1_cuts_16
  · have hb9 : J 24 = nI bm := by rw [hbm, bmV, if_neg (by omega)]
    refine lv_aload_n hx hb dX1_cuts_0 rfl (lv_at hl 0 rfl) ?_
    refine va_get (D := G) (ci := 1) (v := .int (J 24)) (C := RX1) (T := TX1) (N := 33) hx hb hts in_X1 hown hK hP 0 rfl rfl 24 (Nat.le_of_ble_eq_true rfl) (hts _ q910) (fun _ h9 => h9) rfl dX1_cuts_1 ?_
    refine y_top (y := nI bm) hb9 ?_
    refine lv_if_ge (tgt := 12) hx hb dX1_cuts_4 (by decide) (fun c_2 => ?_) (fun c_2 => ?_)
    · refine lv_aload_n hx hb dX1_cuts_12 rfl (lv_at hl 0 rfl) ?_
      refine va_get (D := G) (ci := 1) (v := .int (J 25)) (C := RX1) (T := TX1) (N := 33) hx hb hts in_X1 hown hK hP 0 rfl rfl 25 (Nat.le_of_ble_eq_true rfl) (hts _ q911) (fun _ h9 => h9) rfl dX1_cuts_13 ?_
      exact W.iret (v := J 25) hx hb hr (fun t ht hW => ⟨J 25, rfl, by unfold cutsV; rw [if_neg (by omega)], ht⟩) (fun q h => by cases h) dX1_cuts_16
    · exact absurd (nI_pos' (by omega)) c_2
set_option maxHeartbeats 400000 in
set_option maxRecDepth 100000 in
theorem metX1_shift (l : Launch) (G : va_G) (d : Nat → Nat) (sz : Nat) (b : Nat → Nat) (J : Nat → Int32) (E : Nat → Nat → Int32) (n : Nat) (x y z : Int32) (hn20 : n ≤ 20) (hn : J 27 = nI n) : Met l yX1_shift (ws_ yX1_shift cX1_shift 4 (some FieldType.int)) ({ frames := 1, cells := 0, slots := 0, locals := 22 } : Room) (va_Pc [.ref (b 0), .int x, .int y, .int z] (pW G d sz (MW b J E d))) (va_Qi (fun (r : Int32) (u : MS) => (r, u) = mShift n (J, E) x y z) (fun (u : MS) t => bW G d (va_A (MW b J E d) sz) (MW b u.1 u.2 d) t) (va_A (MW b J E d) sz)) 0 0 (va_A (MW b J E d) sz) := by
  refine Met.ofW (cc := cX1_shift) (maxL := 4) (ret := (some FieldType.int)) (by decide) rfl ?_
  intro p e s m args below meth c s₁ B hml hv
  obtain ⟨rfl, hsz, hP, hK, hD0⟩ := hv
  have hx := B.exec
  have hb := B.bytes
  have hr := B.returns
  have hts := atoms_spec (ws := (ws_ yX1_shift cX1_shift 4 (some FieldType.int))) B.pre
  have hts : ∀ w ∈ lw_all, w.before _ s = true := fun w h => hts w (List.mem_cons_of_mem _ h)
  have hown : s.vm.findClass RX1 = some m.cls := findClass_of_methodNamed B.named
  have hlocks := B.notSynchronized
  subst hsz
  have hD := hD0.self (sz := s.heap.size)
  generalize hAe : va_A (MW b J E d) s.heap.size = A at hD ⊢
  have hA : ∀ q : Nat, s.heap.size ≤ q → A q := fun q h => by rw [← hAe]; exact Or.inr h
  have hS : va_S A s.heap s.heap [] := va_S.rf
  have hl := lv_entry ([.ref (b 0), .int x, .int y, .int z]) (n := 4) (Nat.le_of_ble_eq_true rfl)
  rw [lg_entry_eq]
  generalize (lg_sl ([.ref (b 0), .int x, .int y, .int z]) ++ List.replicate (4 - (lg_sl ([.ref (b 0), .int x, .int y, .int z])).length) Slot.unset).toArray = ls at hl ⊢
  have hl : lv_has ls 4 [(0, .ref (b 0)), (1, .int x), (2, .int y), (3, .int z)] := hl
  have hP : va_P G CLS (MW b J E d) s.heap := hP
  refine lv_iload_n hx hb dX1_shift_0 rfl (lv_at hl 1 rfl) ?_
  refine lv_bipush (v := (-50)) hx hb dX1_shift_1 (by decide +kernel) ?_
  refine lv_bipush (v := 50) hx hb dX1_shift_3 (by decide +kernel) ?_
  refine y_rS (As := [.int x, .int (-50), .int 50]) (rest := []) ⟨hx, hb, hml, hown, hts⟩ hK (ws := []) (fun _ _ h => by cases h) (metX1_in l G d x (-50) 50) (va_cwS 3 hts (lw_S q994 q995 q39 q996) rfl rfl rfl (by decide +kernel) ⟨Nat.le_of_ble_eq_true rfl, Nat.le_of_ble_eq_true rfl⟩) rfl hl.1 rfl (lv_room (Nat.le_of_ble_eq_true rfl)) dX1_shift_5 ⟨Nat.le_of_ble_eq_true rfl, Nat.le_of_ble_eq_true rfl⟩ (fun r_1 hr_2 => ?_)
  refine lv_if_eq (tgt := 33) hx hb dX1_shift_8 (by decide) (fun c_3 => ?_) (fun c_3 => ?_)
  · have c_3 := bI_eq hr_2 c_3
    refine lv_iconst (v := (-1)) hx hb dX1_shift_33 (by decide) ?_
    exact W.iret (v := (-1)) hx hb hr (fun t ht hW => ⟨⟨(-1), (J, E), rfl, (if_neg (fun h => c_3 (h.1))).symm, by rw [ht]; exact hP, va_K.moved hW.alike hK, hD⟩, hS.F ht⟩) hS.2.2 dX1_shift_34
  · have c_3 := bI_ne hr_2 c_3
    refine lv_iload_n hx hb dX1_shift_11 rfl (lv_at hl 2 rfl) ?_
    refine lv_bipush (v := (-50)) hx hb dX1_shift_12 (by decide +kernel) ?_
    refine lv_bipush (v := 50) hx hb dX1_shift_14 (by decide +kernel) ?_
    refine y_rS (As := [.int y, .int (-50), .int 50]) (rest := []) ⟨hx, hb, hml, hown, hts⟩ hK (ws := []) (fun _ _ h => by cases h) (metX1_in l G d y (-50) 50) (va_cwS 3 hts (lw_S q994 q995 q39 q996) rfl rfl rfl (by decide +kernel) ⟨Nat.le_of_ble_eq_true rfl, Nat.le_of_ble_eq_true rfl⟩) rfl hl.1 rfl (lv_room (Nat.le_of_ble_eq_true rfl)) dX1_shift_16 ⟨Nat.le_of_ble_eq_true rfl, Nat.le_of_ble_eq_true rfl⟩ (fun r_4 hr_5 => ?_)
    refine lv_if_eq (tgt := 33) hx hb dX1_shift_19 (by decide) (fun c_6 => ?_) (fun c_6 => ?_)
    · have c_6 := bI_eq hr_5 c_6
      refine lv_iconst (v := (-1)) hx hb dX1_shift_33 (by decide) ?_
      exact W.iret (v := (-1)) hx hb hr (fun t ht hW => ⟨⟨(-1), (J, E), rfl, (if_neg (fun h => c_6 (h.2.1))).symm, by rw [ht]; exact hP, va_K.moved hW.alike hK, hD⟩, hS.F ht⟩) hS.2.2 dX1_shift_34
    · have c_6 := bI_ne hr_5 c_6
      refine lv_iload_n hx hb dX1_shift_22 rfl (lv_at hl 3 rfl) ?_
      refine lv_bipush (v := (-50)) hx hb dX1_shift_23 (by decide +kernel) ?_
      refine lv_bipush (v := 50) hx hb dX1_shift_25 (by decide +kernel) ?_
      refine y_rS (As := [.int z, .int (-50), .int 50]) (rest := []) ⟨hx, hb, hml, hown, hts⟩ hK (ws := []) (fun _ _ h => by cases h) (metX1_in l G d z (-50) 50) (va_cwS 3 hts (lw_S q994 q995 q39 q996) rfl rfl rfl (by decide +kernel) ⟨Nat.le_of_ble_eq_true rfl, Nat.le_of_ble_eq_true rfl⟩) rfl hl.1 rfl (lv_room (Nat.le_of_ble_eq_true rfl)) dX1_shift_27 ⟨Nat.le_of_ble_eq_true rfl, Nat.le_of_ble_eq_true rfl⟩ (fun r_7 hr_8 => ?_)
      refine lv_if_ne (tgt := 35) hx hb dX1_shift_30 (by decide) (fun c_9 => ?_) (fun c_9 => ?_)
      · have c_9 := bI_ne hr_8 c_9
        refine lv_aload_n hx hb dX1_shift_35 rfl (lv_at hl 0 rfl) ?_
        refine va_get (D := G) (ci := 1) (v := .int (J 27)) (C := RX1) (T := TX1) (N := 33) hx hb hts in_X1 hown hK hP 0 rfl rfl 27 (Nat.le_of_ble_eq_true rfl) (hts _ q913) (fun _ h9 => h9) rfl dX1_shift_36 ?_
        refine y_top (y := nI n) hn ?_
        refine lv_bipush (v := 20) hx hb dX1_shift_39 (by decide +kernel) ?_
        refine lv_icmp_ne (tgt := 47) hx hb dX1_shift_41 (by decide) (fun c_10 => ?_) (fun c_10 => ?_)
        · have c_10 : ¬ n = 20 := fun h => c_10 ((nI_eq (a := n) (b := 20) (by omega) (by omega)).mpr h)
          refine lv_aload_n hx hb dX1_shift_47 rfl (lv_at hl 0 rfl) ?_
          refine va_get (D := G) (ci := 1) (v := .ref (b 28)) (C := RX1) (T := TX1) (N := 33) hx hb hts in_X1 hown hK hP 0 rfl rfl 28 (Nat.le_of_ble_eq_true rfl) (hts _ q914) (fun _ h9 => h9) rfl dX1_shift_48 ?_
          refine lv_aload_n hx hb dX1_shift_51 rfl (lv_at hl 0 rfl) ?_
          refine va_get (D := G) (ci := 1) (v := .int (J 27)) (C := RX1) (T := TX1) (N := 33) hx hb hts in_X1 hown hK hP 0 rfl rfl 27 (Nat.le_of_ble_eq_true rfl) (hts _ q913) (fun _ h9 => h9) rfl dX1_shift_52 ?_
          refine y_top (y := nI n) hn ?_
          refine lv_iconst (v := 0) hx hb dX1_shift_55 (by decide) ?_
          refine y_zast (N := n) (f := E 28) hx hb hK hP hD hS 20 1 rfl rfl rfl (by omega) (by decide) (Or.inl rfl) dX1_shift_56 (fun H locs hP hD hS => ?_)
          have hP : va_P G CLS (MW b J (va_up E 28 (upd (E 28) n 0)) d) H := hP
          have hD : va_D A (MW b J (va_up E 28 (upd (E 28) n 0)) d) := hD
          refine lv_aload_n hx hb dX1_shift_57 rfl (lv_at hl 0 rfl) ?_
          refine va_get (D := G) (ci := 1) (v := .ref (b 29)) (C := RX1) (T := TX1) (N := 33) hx hb hts in_X1 hown hK hP 0 rfl rfl 29 (Nat.le_of_ble_eq_true rfl) (hts _ q915) (fun _ h9 => h9) rfl dX1_shift_58 ?_
          refine lv_iconst (v := 3) hx hb dX1_shift_61 (by decide) ?_
          refine lv_aload_n hx hb dX1_shift_62 rfl (lv_at hl 0 rfl) ?_
          refine va_get (D := G) (ci := 1) (v := .int (J 27)) (C := RX1) (T := TX1) (N := 33) hx hb hts in_X1 hown hK hP 0 rfl rfl 27 (Nat.le_of_ble_eq_true rfl) (hts _ q913) (fun _ h9 => h9) rfl dX1_shift_63 ?_
          refine y_top (y := nI n) hn ?_
          refine lv_imul hx hb dX1_shift_66 ?_
          refine y_top (y := nI (3 * n)) (pk_mul 3 n) ?_
          refine lv_iload_n hx hb dX1_shift_67 rfl (lv_at hl 1 rfl) ?_
          refine y_iast (N := 3 * n) (f := E 29) hx hb hK hP hD hS 21 0 rfl rfl rfl (by omega) (by decide) dX1_shift_68 (fun H locs hP hD hS => ?_)
          have hP : va_P G CLS (MW b J (va_up (va_up E 28 (upd (E 28) n 0)) 29 (upd (E 29) (3 * n) x)) d) H := hP
          have hD : va_D A (MW b J (va_up (va_up E 28 (upd (E 28) n 0)) 29 (upd (E 29) (3 * n) x)) d) := hD
          refine lv_aload_n hx hb dX1_shift_69 rfl (lv_at hl 0 rfl) ?_
          refine va_get (D := G) (ci := 1) (v := .ref (b 29)) (C := RX1) (T := TX1) (N := 33) hx hb hts in_X1 hown hK hP 0 rfl rfl 29 (Nat.le_of_ble_eq_true rfl) (hts _ q915) (fun _ h9 => h9) rfl dX1_shift_70 ?_
          refine lv_iconst (v := 3) hx hb dX1_shift_73 (by decide) ?_
          refine lv_aload_n hx hb dX1_shift_74 rfl (lv_at hl 0 rfl) ?_
          refine va_get (D := G) (ci := 1) (v := .int (J 27)) (C := RX1) (T := TX1) (N := 33) hx hb hts in_X1 hown hK hP 0 rfl rfl 27 (Nat.le_of_ble_eq_true rfl) (hts _ q913) (fun _ h9 => h9) rfl dX1_shift_75 ?_
          refine y_top (y := nI n) hn ?_
          refine lv_imul hx hb dX1_shift_78 ?_
          refine y_top (y := nI (3 * n)) (pk_mul 3 n) ?_
          refine lv_iconst (v := 1) hx hb dX1_shift_79 (by decide) ?_
          refine lv_iadd hx hb dX1_shift_80 ?_
          refine y_top (y := nI ((3 * n) + 1)) (nI_add (3 * n) 1) ?_
          refine lv_iload_n hx hb dX1_shift_81 rfl (lv_at hl 2 rfl) ?_
          refine y_iast (N := (3 * n) + 1) (f := (upd (E 29) (3 * n) x)) hx hb hK hP hD hS 21 0 rfl rfl rfl (by omega) (by decide) dX1_shift_82 (fun H locs hP hD hS => ?_)
          have hP : va_P G CLS (MW b J (va_up (va_up (va_up E 28 (upd (E 28) n 0)) 29 (upd (E 29) (3 * n) x)) 29 (upd (upd (E 29) (3 * n) x) ((3 * n) + 1) y)) d) H := hP
          have hD : va_D A (MW b J (va_up (va_up (va_up E 28 (upd (E 28) n 0)) 29 (upd (E 29) (3 * n) x)) 29 (upd (upd (E 29) (3 * n) x) ((3 * n) + 1) y)) d) := hD
          refine lv_aload_n hx hb dX1_shift_83 rfl (lv_at hl 0 rfl) ?_
          refine va_get (D := G) (ci := 1) (v := .ref (b 29)) (C := RX1) (T := TX1) (N := 33) hx hb hts in_X1 hown hK hP 0 rfl rfl 29 (Nat.le_of_ble_eq_true rfl) (hts _ q915) (fun _ h9 => h9) rfl dX1_shift_84 ?_
          refine lv_iconst (v := 3) hx hb dX1_shift_87 (by decide) ?_
          refine lv_aload_n hx hb dX1_shift_88 rfl (lv_at hl 0 rfl) ?_
          refine va_get (D := G) (ci := 1) (v := .int (J 27)) (C := RX1) (T := TX1) (N := 33) hx hb hts in_X1 hown hK hP 0 rfl rfl 27 (Nat.le_of_ble_eq_true rfl) (hts _ q913) (fun _ h9 => h9) rfl dX1_shift_89 ?_
          refine y_top (y := nI n) hn ?_
          refine lv_imul hx hb dX1_shift_92 ?_
          refine y_top (y := nI (3 * n)) (pk_mul 3 n) ?_
          refine lv_iconst (v := 2) hx hb dX1_shift_93 (by decide) ?_
          refine lv_iadd hx hb dX1_shift_94 ?_
          refine y_top (y := nI ((3 * n) + 2)) (nI_add (3 * n) 2) ?_
          refine lv_iload_n hx hb dX1_shift_95 rfl (lv_at hl 3 rfl) ?_
          refine y_iast (N := (3 * n) + 2) (f := (upd (upd (E 29) (3 * n) x) ((3 * n) + 1) y)) hx hb hK hP hD hS 21 0 rfl rfl rfl (by omega) (by decide) dX1_shift_96 (fun H locs hP hD hS => ?_)
          have hP : va_P G CLS (MW b J (va_up (va_up (va_up (va_up E 28 (upd (E 28) n 0)) 29 (upd (E 29) (3 * n) x)) 29 (upd (upd (E 29) (3 * n) x) ((3 * n) + 1) y)) 29 (upd (upd (upd (E 29) (3 * n) x) ((3 * n) + 1) y) ((3 * n) + 2) z)) d) H := hP
          have hD : va_D A (MW b J (va_up (va_up (va_up (va_up E 28 (upd (E 28) n 0)) 29 (upd (E 29) (3 * n) x)) 29 (upd (upd (E 29) (3 * n) x) ((3 * n) + 1) y)) 29 (upd (upd (upd (E 29) (3 * n) x) ((3 * n) + 1) y) ((3 * n) + 2) z)) d) := hD
          refine lv_aload_n hx hb dX1_shift_97 rfl (lv_at hl 0 rfl) ?_
          refine lv_dup hx hb dX1_shift_98 rfl ?_
          refine va_get (D := G) (ci := 1) (v := .int (J 27)) (C := RX1) (T := TX1) (N := 33) hx hb hts in_X1 hown hK hP 0 rfl rfl 27 (Nat.le_of_ble_eq_true rfl) (hts _ q913) (fun _ h9 => h9) rfl dX1_shift_99 ?_
          refine y_top (y := nI n) hn ?_
          refine lv_iconst (v := 1) hx hb dX1_shift_102 (by decide) ?_
          refine lv_iadd hx hb dX1_shift_103 ?_
          refine y_top (y := nI (n + 1)) (nI_add n 1) ?_
          refine va_put (D := G) (ci := 1) (v := .int (nI (n + 1))) (ty := .int) (C := RX1) (T := TX1) (N := 33) hx hb hts in_X1 tyX1 tyX1_ok nmX1 hown hK hP hD hS 0 rfl rfl 27 (Nat.le_of_ble_eq_true rfl) (hts _ q913) (fun _ h9 => h9) rfl (by decide +kernel) rfl rfl (Nat.le_of_ble_eq_true rfl) dX1_shift_104 (fun H locs hP hD hS => ?_)
          have hP : va_P G CLS (MW b (upd J 27 (nI (n + 1))) (va_up (va_up (va_up (va_up E 28 (upd (E 28) n 0)) 29 (upd (E 29) (3 * n) x)) 29 (upd (upd (E 29) (3 * n) x) ((3 * n) + 1) y)) 29 (upd (upd (upd (E 29) (3 * n) x) ((3 * n) + 1) y) ((3 * n) + 2) z)) d) H := hP
          have hD : va_D A (MW b (upd J 27 (nI (n + 1))) (va_up (va_up (va_up (va_up E 28 (upd (E 28) n 0)) 29 (upd (E 29) (3 * n) x)) 29 (upd (upd (E 29) (3 * n) x) ((3 * n) + 1) y)) 29 (upd (upd (upd (E 29) (3 * n) x) ((3 * n) + 1) y) ((3 * n) + 2) z)) d) := hD
          refine lv_aload_n hx hb dX1_shift_107 rfl (lv_at hl 0 rfl) ?_
          refine va_get (D := G) (ci := 1) (v := .int (nI (n + 1))) (C := RX1) (T := TX1) (N := 33) hx hb hts in_X1 hown hK hP 0 rfl rfl 27 (Nat.le_of_ble_eq_true rfl) (hts _ q913) (fun _ h9 => h9) rfl dX1_shift_108 ?_
          exact W.iret (v := nI (n + 1)) hx hb hr (fun t ht hW => ⟨⟨nI (n + 1), (upd J 27 (nI (n + 1)), va_up (va_up E 28 (upd (E 28) n 0)) 29 (upd (upd (upd (E 29) (3 * n) x) (3 * n + 1) y) (3 * n + 2) z)), rfl, by unfold mShift; rw [if_pos ⟨c_3, c_6, c_9⟩, if_neg c_10], by rw [ht]; exact hP, va_K.moved hW.alike hK, hD⟩, hS.F ht⟩) hS.2.2 dX1_shift_111
        · have c_10 : n = 20 := (nI_eq (a := n) (b := 20) (by omega) (by omega)).mp c_10
          refine lv_bipush (v := (-2)) hx hb dX1_shift_44 (by decide +kernel) ?_
          exact W.iret (v := (-2)) hx hb hr (fun t ht hW => ⟨⟨(-2), (J, E), rfl, by unfold mShift; rw [if_pos ⟨c_3, c_6, c_9⟩, if_pos c_10], by rw [ht]; exact hP, va_K.moved hW.alike hK, hD⟩, hS.F ht⟩) hS.2.2 dX1_shift_46
      · have c_9 := bI_eq hr_8 c_9
        refine lv_iconst (v := (-1)) hx hb dX1_shift_33 (by decide) ?_
        exact W.iret (v := (-1)) hx hb hr (fun t ht hW => ⟨⟨(-1), (J, E), rfl, (if_neg (fun h => c_9 (h.2.2))).symm, by rw [ht]; exact hP, va_K.moved hW.alike hK, hD⟩, hS.F ht⟩) hS.2.2 dX1_shift_34
set_option maxHeartbeats 400000 in
set_option maxRecDepth 100000 in
theorem metX1_turn (l : Launch) (G : va_G) (d : Nat → Nat) (sz : Nat) (b : Nat → Nat) (J : Nat → Int32) (E : Nat → Nat → Int32) (n : Nat) (ax fw : Int32) (hn20 : n ≤ 20) (hn : J 27 = nI n) : Met l yX1_turn (ws_ yX1_turn cX1_turn 3 (some FieldType.int)) ({ frames := 1, cells := 0, slots := 0, locals := 22 } : Room) (va_Pc [.ref (b 0), .int ax, .int fw] (pW G d sz (MW b J E d))) (va_Qi (fun (r : Int32) (u : MS) => (r, u) = mTurn n (J, E) ax fw) (fun (u : MS) t => bW G d (va_A (MW b J E d) sz) (MW b u.1 u.2 d) t) (va_A (MW b J E d) sz)) 0 0 (va_A (MW b J E d) sz) := by
  refine Met.ofW (cc := cX1_turn) (maxL := 3) (ret := (some FieldType.int)) (by decide) rfl ?_
  intro p e s m args below meth c s₁ B hml hv
  obtain ⟨rfl, hsz, hP, hK, hD0⟩ := hv
  have hx := B.exec
  have hb := B.bytes
  have hr := B.returns
  have hts := atoms_spec (ws := (ws_ yX1_turn cX1_turn 3 (some FieldType.int))) B.pre
  have hts : ∀ w ∈ lw_all, w.before _ s = true := fun w h => hts w (List.mem_cons_of_mem _ h)
  have hown : s.vm.findClass RX1 = some m.cls := findClass_of_methodNamed B.named
  have hlocks := B.notSynchronized
  subst hsz
  have hD := hD0.self (sz := s.heap.size)
  generalize hAe : va_A (MW b J E d) s.heap.size = A at hD ⊢
  have hA : ∀ q : Nat, s.heap.size ≤ q → A q := fun q h => by rw [← hAe]; exact Or.inr h
  have hS : va_S A s.heap s.heap [] := va_S.rf
  have hl := lv_entry ([.ref (b 0), .int ax, .int fw]) (n := 3) (Nat.le_of_ble_eq_true rfl)
  rw [lg_entry_eq]
  generalize (lg_sl ([.ref (b 0), .int ax, .int fw]) ++ List.replicate (3 - (lg_sl ([.ref (b 0), .int ax, .int fw])).length) Slot.unset).toArray = ls at hl ⊢
  have hl : lv_has ls 3 [(0, .ref (b 0)), (1, .int ax), (2, .int fw)] := hl
  have hP : va_P G CLS (MW b J E d) s.heap := hP
  refine lv_iload_n hx hb dX1_turn_0 rfl (lv_at hl 1 rfl) ?_
  refine lv_iconst (v := 0) hx hb dX1_turn_1 (by decide) ?_
  refine lv_iconst (v := 2) hx hb dX1_turn_2 (by decide) ?_
  refine y_rS (As := [.int ax, .int 0, .int 2]) (rest := []) ⟨hx, hb, hml, hown, hts⟩ hK (ws := []) (fun _ _ h => by cases h) (metX1_in l G d ax 0 2) (va_cwS 3 hts (lw_S q994 q995 q39 q996) rfl rfl rfl (by decide +kernel) ⟨Nat.le_of_ble_eq_true rfl, Nat.le_of_ble_eq_true rfl⟩) rfl hl.1 rfl (lv_room (Nat.le_of_ble_eq_true rfl)) dX1_turn_3 ⟨Nat.le_of_ble_eq_true rfl, Nat.le_of_ble_eq_true rfl⟩ (fun r_1 hr_2 => ?_)
  refine lv_if_ne (tgt := 11) hx hb dX1_turn_6 (by decide) (fun c_3 => ?_) (fun c_3 => ?_)
  · have c_3 := bI_ne hr_2 c_3
    refine lv_aload_n hx hb dX1_turn_11 rfl (lv_at hl 0 rfl) ?_
    refine va_get (D := G) (ci := 1) (v := .int (J 27)) (C := RX1) (T := TX1) (N := 33) hx hb hts in_X1 hown hK hP 0 rfl rfl 27 (Nat.le_of_ble_eq_true rfl) (hts _ q913) (fun _ h9 => h9) rfl dX1_turn_12 ?_
    refine y_top (y := nI n) hn ?_
    refine lv_bipush (v := 20) hx hb dX1_turn_15 (by decide +kernel) ?_
    refine lv_icmp_ne (tgt := 23) hx hb dX1_turn_17 (by decide) (fun c_4 => ?_) (fun c_4 => ?_)
    · have c_4 : ¬ n = 20 := fun h => c_4 ((nI_eq (a := n) (b := 20) (by omega) (by omega)).mpr h)
      refine lv_aload_n hx hb dX1_turn_23 rfl (lv_at hl 0 rfl) ?_
      refine va_get (D := G) (ci := 1) (v := .ref (b 28)) (C := RX1) (T := TX1) (N := 33) hx hb hts in_X1 hown hK hP 0 rfl rfl 28 (Nat.le_of_ble_eq_true rfl) (hts _ q914) (fun _ h9 => h9) rfl dX1_turn_24 ?_
      refine lv_aload_n hx hb dX1_turn_27 rfl (lv_at hl 0 rfl) ?_
      refine va_get (D := G) (ci := 1) (v := .int (J 27)) (C := RX1) (T := TX1) (N := 33) hx hb hts in_X1 hown hK hP 0 rfl rfl 27 (Nat.le_of_ble_eq_true rfl) (hts _ q913) (fun _ h9 => h9) rfl dX1_turn_28 ?_
      refine y_top (y := nI n) hn ?_
      refine lv_iconst (v := 1) hx hb dX1_turn_31 (by decide) ?_
      refine y_zast (N := n) (f := E 28) hx hb hK hP hD hS 20 1 rfl rfl rfl (by omega) (by decide) (Or.inr rfl) dX1_turn_32 (fun H locs hP hD hS => ?_)
      have hP : va_P G CLS (MW b J (va_up E 28 (upd (E 28) n 1)) d) H := hP
      have hD : va_D A (MW b J (va_up E 28 (upd (E 28) n 1)) d) := hD
      refine lv_aload_n hx hb dX1_turn_33 rfl (lv_at hl 0 rfl) ?_
      refine va_get (D := G) (ci := 1) (v := .ref (b 29)) (C := RX1) (T := TX1) (N := 33) hx hb hts in_X1 hown hK hP 0 rfl rfl 29 (Nat.le_of_ble_eq_true rfl) (hts _ q915) (fun _ h9 => h9) rfl dX1_turn_34 ?_
      refine lv_iconst (v := 3) hx hb dX1_turn_37 (by decide) ?_
      refine lv_aload_n hx hb dX1_turn_38 rfl (lv_at hl 0 rfl) ?_
      refine va_get (D := G) (ci := 1) (v := .int (J 27)) (C := RX1) (T := TX1) (N := 33) hx hb hts in_X1 hown hK hP 0 rfl rfl 27 (Nat.le_of_ble_eq_true rfl) (hts _ q913) (fun _ h9 => h9) rfl dX1_turn_39 ?_
      refine y_top (y := nI n) hn ?_
      refine lv_imul hx hb dX1_turn_42 ?_
      refine y_top (y := nI (3 * n)) (pk_mul 3 n) ?_
      refine lv_iload_n hx hb dX1_turn_43 rfl (lv_at hl 1 rfl) ?_
      refine y_iast (N := 3 * n) (f := E 29) hx hb hK hP hD hS 21 0 rfl rfl rfl (by omega) (by decide) dX1_turn_44 (fun H locs hP hD hS => ?_)
      have hP : va_P G CLS (MW b J (va_up (va_up E 28 (upd (E 28) n 1)) 29 (upd (E 29) (3 * n) ax)) d) H := hP
      have hD : va_D A (MW b J (va_up (va_up E 28 (upd (E 28) n 1)) 29 (upd (E 29) (3 * n) ax)) d) := hD
      refine lv_aload_n hx hb dX1_turn_45 rfl (lv_at hl 0 rfl) ?_
      refine va_get (D := G) (ci := 1) (v := .ref (b 29)) (C := RX1) (T := TX1) (N := 33) hx hb hts in_X1 hown hK hP 0 rfl rfl 29 (Nat.le_of_ble_eq_true rfl) (hts _ q915) (fun _ h9 => h9) rfl dX1_turn_46 ?_
      refine lv_iconst (v := 3) hx hb dX1_turn_49 (by decide) ?_
      refine lv_aload_n hx hb dX1_turn_50 rfl (lv_at hl 0 rfl) ?_
      refine va_get (D := G) (ci := 1) (v := .int (J 27)) (C := RX1) (T := TX1) (N := 33) hx hb hts in_X1 hown hK hP 0 rfl rfl 27 (Nat.le_of_ble_eq_true rfl) (hts _ q913) (fun _ h9 => h9) rfl dX1_turn_51 ?_
      refine y_top (y := nI n) hn ?_
      refine lv_imul hx hb dX1_turn_54 ?_
      refine y_top (y := nI (3 * n)) (pk_mul 3 n) ?_
      refine lv_iconst (v := 1) hx hb dX1_turn_55 (by decide) ?_
      refine lv_iadd hx hb dX1_turn_56 ?_
      refine y_top (y := nI ((3 * n) + 1)) (nI_add (3 * n) 1) ?_
      have hj_5 : ∀ (q : Int32) (hq : q = if fw = 0 then -1 else 1), W p l e (headSpec (ws_ yX1_turn cX1_turn 3 (some FieldType.int)) ({ frames := 1, cells := 0, slots := 0, locals := 22 } : Room)).room s m ([.ref (b 0), .int ax, .int fw] : List Value).toArray below meth c H locs 0 0 (MQ below (va_Qi (fun (r : Int32) (u : MS) => (r, u) = mTurn n (J, E) ax fw) (fun (u : MS) t => bW G d A (MW b u.1 u.2 d) t) A) ([.ref (b 0), .int ax, .int fw] : List Value).toArray s 0 0 A) (F0 m 66 ls [.int q, .int (nI ((3 * n) + 1)), .ref (b 29)]) := by
        intro q hq
        refine y_iast (N := (3 * n) + 1) (f := (upd (E 29) (3 * n) ax)) hx hb hK hP hD hS 21 0 rfl rfl rfl (by omega) (by decide) dX1_turn_66 (fun H locs hP hD hS => ?_)
        have hP : va_P G CLS (MW b J (va_up (va_up (va_up E 28 (upd (E 28) n 1)) 29 (upd (E 29) (3 * n) ax)) 29 (upd (upd (E 29) (3 * n) ax) ((3 * n) + 1) q)) d) H := hP
        have hD : va_D A (MW b J (va_up (va_up (va_up E 28 (upd (E 28) n 1)) 29 (upd (E 29) (3 * n) ax)) 29 (upd (upd (E 29) (3 * n) ax) ((3 * n) + 1) q)) d) := hD
        refine lv_aload_n hx hb dX1_turn_67 rfl (lv_at hl 0 rfl) ?_
        refine lv_dup hx hb dX1_turn_68 rfl ?_
        refine va_get (D := G) (ci := 1) (v := .int (J 27)) (C := RX1) (T := TX1) (N := 33) hx hb hts in_X1 hown hK hP 0 rfl rfl 27 (Nat.le_of_ble_eq_true rfl) (hts _ q913) (fun _ h9 => h9) rfl dX1_turn_69 ?_
        refine y_top (y := nI n) hn ?_
        refine lv_iconst (v := 1) hx hb dX1_turn_72 (by decide) ?_
        refine lv_iadd hx hb dX1_turn_73 ?_
        refine y_top (y := nI (n + 1)) (nI_add n 1) ?_
        refine va_put (D := G) (ci := 1) (v := .int (nI (n + 1))) (ty := .int) (C := RX1) (T := TX1) (N := 33) hx hb hts in_X1 tyX1 tyX1_ok nmX1 hown hK hP hD hS 0 rfl rfl 27 (Nat.le_of_ble_eq_true rfl) (hts _ q913) (fun _ h9 => h9) rfl (by decide +kernel) rfl rfl (Nat.le_of_ble_eq_true rfl) dX1_turn_74 (fun H locs hP hD hS => ?_)
        have hP : va_P G CLS (MW b (upd J 27 (nI (n + 1))) (va_up (va_up (va_up E 28 (upd (E 28) n 1)) 29 (upd (E 29) (3 * n) ax)) 29 (upd (upd (E 29) (3 * n) ax) ((3 * n) + 1) q)) d) H := hP
        have hD : va_D A (MW b (upd J 27 (nI (n + 1))) (va_up (va_up (va_up E 28 (upd (E 28) n 1)) 29 (upd (E 29) (3 * n) ax)) 29 (upd (upd (E 29) (3 * n) ax) ((3 * n) + 1) q)) d) := hD
        refine lv_aload_n hx hb dX1_turn_77 rfl (lv_at hl 0 rfl) ?_
        refine va_get (D := G) (ci := 1) (v := .int (nI (n + 1))) (C := RX1) (T := TX1) (N := 33) hx hb hts in_X1 hown hK hP 0 rfl rfl 27 (Nat.le_of_ble_eq_true rfl) (hts _ q913) (fun _ h9 => h9) rfl dX1_turn_78 ?_
        exact W.iret (v := nI (n + 1)) hx hb hr (fun t ht hW => ⟨⟨nI (n + 1), (upd J 27 (nI (n + 1)), va_up (va_up E 28 (upd (E 28) n 1)) 29 (upd (upd (E 29) (3 * n) ax) (3 * n + 1) q)), rfl, by unfold mTurn; rw [if_pos c_3, if_neg c_4, hq], by rw [ht]; exact hP, va_K.moved hW.alike hK, hD⟩, hS.F ht⟩) hS.2.2 dX1_turn_81
      refine lv_iload_n hx hb dX1_turn_57 rfl (lv_at hl 2 rfl) ?_
      refine lv_if_eq (tgt := 65) hx hb dX1_turn_58 (by decide) (fun c_6 => ?_) (fun c_6 => ?_)
      · refine lv_iconst (v := (-1)) hx hb dX1_turn_65 (by decide) ?_
        exact hj_5 _ (if_pos c_6).symm
      · refine lv_iconst (v := 1) hx hb dX1_turn_61 (by decide) ?_
        refine lv_goto (tgt := 66) hx hb dX1_turn_62 (by decide) ?_
        exact hj_5 _ (if_neg c_6).symm
    · have c_4 : n = 20 := (nI_eq (a := n) (b := 20) (by omega) (by omega)).mp c_4
      refine lv_bipush (v := (-2)) hx hb dX1_turn_20 (by decide +kernel) ?_
      exact W.iret (v := (-2)) hx hb hr (fun t ht hW => ⟨⟨(-2), (J, E), rfl, by unfold mTurn; rw [if_pos c_3, if_pos c_4], by rw [ht]; exact hP, va_K.moved hW.alike hK, hD⟩, hS.F ht⟩) hS.2.2 dX1_turn_22
  · have c_3 := bI_eq hr_2 c_3
    refine lv_iconst (v := (-1)) hx hb dX1_turn_9 (by decide) ?_
    exact W.iret (v := (-1)) hx hb hr (fun t ht hW => ⟨⟨(-1), (J, E), rfl, (if_neg c_3).symm, by rw [ht]; exact hP, va_K.moved hW.alike hK, hD⟩, hS.F ht⟩) hS.2.2 dX1_turn_10
set_option maxHeartbeats 400000 in
set_option maxRecDepth 100000 in
theorem metX1_undo (l : Launch) (G : va_G) (d : Nat → Nat) (sz : Nat) (b : Nat → Nat) (J : Nat → Int32) (E : Nat → Nat → Int32) (n : Nat) (hn20 : n ≤ 20) (hn : J 27 = nI n) : Met l yX1_undo (ws_ yX1_undo cX1_undo 1 (some FieldType.int)) ({ frames := 0, cells := 0, slots := 0, locals := 0 } : Room) (va_Pc [.ref (b 0)] (pW G d sz (MW b J E d))) (va_Qi (fun (r : Int32) (u : MS) => (r, u) = mUndo n (J, E)) (fun (u : MS) t => bW G d (va_A (MW b J E d) sz) (MW b u.1 u.2 d) t) (va_A (MW b J E d) sz)) 0 0 (va_A (MW b J E d) sz) := by
  refine Met.ofW (cc := cX1_undo) (maxL := 1) (ret := (some FieldType.int)) (by decide) rfl ?_
  intro p e s m args below meth c s₁ B hml hv
  obtain ⟨rfl, hsz, hP, hK, hD0⟩ := hv
  have hx := B.exec
  have hb := B.bytes
  have hr := B.returns
  have hts := atoms_spec (ws := (ws_ yX1_undo cX1_undo 1 (some FieldType.int))) B.pre
  have hts : ∀ w ∈ lw_all, w.before _ s = true := fun w h => hts w (List.mem_cons_of_mem _ h)
  have hown : s.vm.findClass RX1 = some m.cls := findClass_of_methodNamed B.named
  have hlocks := B.notSynchronized
  subst hsz
  have hD := hD0.self (sz := s.heap.size)
  generalize hAe : va_A (MW b J E d) s.heap.size = A at hD ⊢
  have hA : ∀ q : Nat, s.heap.size ≤ q → A q := fun q h => by rw [← hAe]; exact Or.inr h
  have hS : va_S A s.heap s.heap [] := va_S.rf
  have hl := lv_entry ([.ref (b 0)]) (n := 1) (Nat.le_of_ble_eq_true rfl)
  rw [lg_entry_eq]
  generalize (lg_sl ([.ref (b 0)]) ++ List.replicate (1 - (lg_sl ([.ref (b 0)])).length) Slot.unset).toArray = ls at hl ⊢
  have hl : lv_has ls 1 [(0, .ref (b 0))] := hl
  have hP : va_P G CLS (MW b J E d) s.heap := hP
  refine lv_aload_n hx hb dX1_undo_0 rfl (lv_at hl 0 rfl) ?_
  refine va_get (D := G) (ci := 1) (v := .int (J 27)) (C := RX1) (T := TX1) (N := 33) hx hb hts in_X1 hown hK hP 0 rfl rfl 27 (Nat.le_of_ble_eq_true rfl) (hts _ q913) (fun _ h9 => h9) rfl dX1_undo_1 ?_
  refine y_top (y := nI n) hn ?_
  refine lv_if_ne (tgt := 10) hx hb dX1_undo_4 (by decide) (fun c_1 => ?_) (fun c_1 => ?_)
  · have c_1 : ¬ n = 0 := fun h => c_1 ((nI_eq (a := n) (b := 0) (by omega) (by omega)).mpr h)
    refine lv_aload_n hx hb dX1_undo_10 rfl (lv_at hl 0 rfl) ?_
    refine lv_dup hx hb dX1_undo_11 rfl ?_
    refine va_get (D := G) (ci := 1) (v := .int (J 27)) (C := RX1) (T := TX1) (N := 33) hx hb hts in_X1 hown hK hP 0 rfl rfl 27 (Nat.le_of_ble_eq_true rfl) (hts _ q913) (fun _ h9 => h9) rfl dX1_undo_12 ?_
    refine y_top (y := nI n) hn ?_
    refine lv_iconst (v := 1) hx hb dX1_undo_15 (by decide) ?_
    refine lv_isub hx hb dX1_undo_16 ?_
    refine y_top (y := nI (n - 1)) (pk_sub (a := n) (b := 1) (by omega)) ?_
    refine va_put (D := G) (ci := 1) (v := .int (nI (n - 1))) (ty := .int) (C := RX1) (T := TX1) (N := 33) hx hb hts in_X1 tyX1 tyX1_ok nmX1 hown hK hP hD hS 0 rfl rfl 27 (Nat.le_of_ble_eq_true rfl) (hts _ q913) (fun _ h9 => h9) rfl (by decide +kernel) rfl rfl (Nat.le_of_ble_eq_true rfl) dX1_undo_17 (fun H locs hP hD hS => ?_)
    have hP : va_P G CLS (MW b (upd J 27 (nI (n - 1))) E d) H := hP
    have hD : va_D A (MW b (upd J 27 (nI (n - 1))) E d) := hD
    refine lv_aload_n hx hb dX1_undo_20 rfl (lv_at hl 0 rfl) ?_
    refine va_get (D := G) (ci := 1) (v := .int (nI (n - 1))) (C := RX1) (T := TX1) (N := 33) hx hb hts in_X1 hown hK hP 0 rfl rfl 27 (Nat.le_of_ble_eq_true rfl) (hts _ q913) (fun _ h9 => h9) rfl dX1_undo_21 ?_
    exact W.iret (v := nI (n - 1)) hx hb hr (fun t ht hW => ⟨⟨nI (n - 1), (upd J 27 (nI (n - 1)), E), rfl, by unfold mUndo; rw [if_neg c_1], by rw [ht]; exact hP, va_K.moved hW.alike hK, hD⟩, hS.F ht⟩) hS.2.2 dX1_undo_24
  · have c_1 : n = 0 := (nI_eq (a := n) (b := 0) (by omega) (by omega)).mp c_1
    refine lv_bipush (v := (-4)) hx hb dX1_undo_7 (by decide +kernel) ?_
    exact W.iret (v := (-4)) hx hb hr (fun t ht hW => ⟨⟨(-4), (J, E), rfl, by unfold mUndo; rw [if_pos c_1], by rw [ht]; exact hP, va_K.moved hW.alike hK, hD⟩, hS.F ht⟩) hS.2.2 dX1_undo_9
set_option maxHeartbeats 400000 in
set_option maxRecDepth 100000 in
theorem metX1_step (l : Launch) (G : va_G) (d : Nat → Nat) (sz : Nat) (b : Nat → Nat) (J : Nat → Int32) (E : Nat → Nat → Int32) (w x : Int32) (hsz : ∀ w, w < 2 → ∃ z, z ≤ 40 ∧ E 31 w = nI z) : Met l yX1_step (ws_ yX1_step cX1_step 3 (some FieldType.int)) ({ frames := 1, cells := 0, slots := 0, locals := 22 } : Room) (va_Pc [.ref (b 0), .int w, .int x] (pW G d sz (MW b J E d))) (va_Qi (fun (r : Int32) (u : MS) => (r, u) = stepOp 31 32 (J, E) w x) (fun (u : MS) t => bW G d (va_A (MW b J E d) sz) (MW b u.1 u.2 d) t) (va_A (MW b J E d) sz)) 0 0 (va_A (MW b J E d) sz) := by
  refine Met.ofW (cc := cX1_step) (maxL := 3) (ret := (some FieldType.int)) (by decide) rfl ?_
  intro p e s m args below meth c s₁ B hml hv
  obtain ⟨rfl, hsz, hP, hK, hD0⟩ := hv
  have hx := B.exec
  have hb := B.bytes
  have hr := B.returns
  have hts := atoms_spec (ws := (ws_ yX1_step cX1_step 3 (some FieldType.int))) B.pre
  have hts : ∀ w ∈ lw_all, w.before _ s = true := fun w h => hts w (List.mem_cons_of_mem _ h)
  have hown : s.vm.findClass RX1 = some m.cls := findClass_of_methodNamed B.named
  have hlocks := B.notSynchronized
  subst hsz
  have hD := hD0.self (sz := s.heap.size)
  generalize hAe : va_A (MW b J E d) s.heap.size = A at hD ⊢
  have hA : ∀ q : Nat, s.heap.size ≤ q → A q := fun q h => by rw [← hAe]; exact Or.inr h
  have hS : va_S A s.heap s.heap [] := va_S.rf
  have hl := lv_entry ([.ref (b 0), .int w, .int x]) (n := 3) (Nat.le_of_ble_eq_true rfl)
  rw [lg_entry_eq]
  generalize (lg_sl ([.ref (b 0), .int w, .int x]) ++ List.replicate (3 - (lg_sl ([.ref (b 0), .int w, .int x])).length) Slot.unset).toArray = ls at hl ⊢
  have hl : lv_has ls 3 [(0, .ref (b 0)), (1, .int w), (2, .int x)] := hl
  have hP : va_P G CLS (MW b J E d) s.heap := hP
  refine lv_iload_n hx hb dX1_step_0 rfl (lv_at hl 1 rfl) ?_
  refine lv_iconst (v := 0) hx hb dX1_step_1 (by decide) ?_
  refine lv_iconst (v := 1) hx hb dX1_step_2 (by decide) ?_
  refine y_rS (As := [.int w, .int 0, .int 1]) (rest := []) ⟨hx, hb, hml, hown, hts⟩ hK (ws := []) (fun _ _ h => by cases h) (metX1_in l G d w 0 1) (va_cwS 3 hts (lw_S q994 q995 q39 q996) rfl rfl rfl (by decide +kernel) ⟨Nat.le_of_ble_eq_true rfl, Nat.le_of_ble_eq_true rfl⟩) rfl hl.1 rfl (lv_room (Nat.le_of_ble_eq_true rfl)) dX1_step_3 ⟨Nat.le_of_ble_eq_true rfl, Nat.le_of_ble_eq_true rfl⟩ (fun r_1 hr_2 => ?_)
  refine lv_if_eq (tgt := 20) hx hb dX1_step_6 (by decide) (fun c_3 => ?_) (fun c_3 => ?_)
  · have c_3 := bI_eq hr_2 c_3
    refine lv_iconst (v := (-1)) hx hb dX1_step_20 (by decide) ?_
    exact W.iret (v := (-1)) hx hb hr (fun t ht hW => ⟨⟨(-1), (J, E), rfl, (if_neg (fun h => c_3 (h.1))).symm, by rw [ht]; exact hP, va_K.moved hW.alike hK, hD⟩, hS.F ht⟩) hS.2.2 dX1_step_21
  · have c_3 := bI_ne hr_2 c_3
    refine lv_iload_n hx hb dX1_step_9 rfl (lv_at hl 2 rfl) ?_
    refine lv_iconst (v := 0) hx hb dX1_step_10 (by decide) ?_
    refine lv_sipush (v := 2000) hx hb dX1_step_11 (by decide +kernel) ?_
    refine y_rS (As := [.int x, .int 0, .int 2000]) (rest := []) ⟨hx, hb, hml, hown, hts⟩ hK (ws := []) (fun _ _ h => by cases h) (metX1_in l G d x 0 2000) (va_cwS 3 hts (lw_S q994 q995 q39 q996) rfl rfl rfl (by decide +kernel) ⟨Nat.le_of_ble_eq_true rfl, Nat.le_of_ble_eq_true rfl⟩) rfl hl.1 rfl (lv_room (Nat.le_of_ble_eq_true rfl)) dX1_step_14 ⟨Nat.le_of_ble_eq_true rfl, Nat.le_of_ble_eq_true rfl⟩ (fun r_4 hr_5 => ?_)
    refine lv_if_ne (tgt := 22) hx hb dX1_step_17 (by decide) (fun c_6 => ?_) (fun c_6 => ?_)
    · have c_6 := bI_ne hr_5 c_6
      obtain ⟨k, hk, rfl⟩ := inR_n (n := 1) (by decide) c_3
      obtain ⟨z, hz40, hz⟩ := hsz k (by omega)
      refine lv_aload_n hx hb dX1_step_22 rfl (lv_at hl 0 rfl) ?_
      refine va_get (D := G) (ci := 1) (v := .ref (b 31)) (C := RX1) (T := TX1) (N := 33) hx hb hts in_X1 hown hK hP 0 rfl rfl 31 (Nat.le_of_ble_eq_true rfl) (hts _ q917) (fun _ h9 => h9) rfl dX1_step_23 ?_
      refine lv_iload_n hx hb dX1_step_26 rfl (lv_at hl 1 rfl) ?_
      refine y_iald (N := k) (f := E 31) hx hb hK hP 23 0 rfl rfl rfl (by omega) (by decide) dX1_step_27 ?_
      refine y_top (y := nI z) hz ?_
      refine lv_bipush (v := 40) hx hb dX1_step_28 (by decide +kernel) ?_
      refine lv_icmp_ne (tgt := 36) hx hb dX1_step_30 (by decide) (fun c_7 => ?_) (fun c_7 => ?_)
      · have c_7 : ¬ z = 40 := fun h => c_7 ((nI_eq (a := z) (b := 40) (by omega) (by omega)).mpr h)
        refine lv_aload_n hx hb dX1_step_36 rfl (lv_at hl 0 rfl) ?_
        refine va_get (D := G) (ci := 1) (v := .ref (b 32)) (C := RX1) (T := TX1) (N := 33) hx hb hts in_X1 hown hK hP 0 rfl rfl 32 (Nat.le_of_ble_eq_true rfl) (hts _ q918) (fun _ h9 => h9) rfl dX1_step_37 ?_
        refine lv_bipush (v := 40) hx hb dX1_step_40 (by decide +kernel) ?_
        refine lv_iload_n hx hb dX1_step_42 rfl (lv_at hl 1 rfl) ?_
        refine lv_imul hx hb dX1_step_43 ?_
        refine y_top (y := nI (40 * k)) (pk_mul 40 k) ?_
        refine lv_aload_n hx hb dX1_step_44 rfl (lv_at hl 0 rfl) ?_
        refine va_get (D := G) (ci := 1) (v := .ref (b 31)) (C := RX1) (T := TX1) (N := 33) hx hb hts in_X1 hown hK hP 0 rfl rfl 31 (Nat.le_of_ble_eq_true rfl) (hts _ q917) (fun _ h9 => h9) rfl dX1_step_45 ?_
        refine lv_iload_n hx hb dX1_step_48 rfl (lv_at hl 1 rfl) ?_
        refine y_iald (N := k) (f := E 31) hx hb hK hP 23 0 rfl rfl rfl (by omega) (by decide) dX1_step_49 ?_
        refine y_top (y := nI z) hz ?_
        refine lv_iadd hx hb dX1_step_50 ?_
        refine y_top (y := nI ((40 * k) + z)) (nI_add (40 * k) z) ?_
        refine lv_iload_n hx hb dX1_step_51 rfl (lv_at hl 2 rfl) ?_
        refine y_iast (N := (40 * k) + z) (f := E 32) hx hb hK hP hD hS 24 0 rfl rfl rfl (by omega) (by decide) dX1_step_52 (fun H locs hP hD hS => ?_)
        have hP : va_P G CLS (MW b J (va_up E 32 (upd (E 32) ((40 * k) + z) x)) d) H := hP
        have hD : va_D A (MW b J (va_up E 32 (upd (E 32) ((40 * k) + z) x)) d) := hD
        refine lv_aload_n hx hb dX1_step_53 rfl (lv_at hl 0 rfl) ?_
        refine va_get (D := G) (ci := 1) (v := .ref (b 31)) (C := RX1) (T := TX1) (N := 33) hx hb hts in_X1 hown hK hP 0 rfl rfl 31 (Nat.le_of_ble_eq_true rfl) (hts _ q917) (fun _ h9 => h9) rfl dX1_step_54 ?_
        refine lv_iload_n hx hb dX1_step_57 rfl (lv_at hl 1 rfl) ?_
        refine lv_dup2_11 hx hb dX1_step_58 rfl rfl ?_
        refine y_iald (N := k) (f := E 31) hx hb hK hP 23 0 rfl rfl rfl (by omega) (by decide) dX1_step_59 ?_
        refine y_top (y := nI z) hz ?_
        refine lv_iconst (v := 1) hx hb dX1_step_60 (by decide) ?_
        refine lv_iadd hx hb dX1_step_61 ?_
        refine y_top (y := nI (z + 1)) (nI_add z 1) ?_
        refine y_iast (N := k) (f := E 31) hx hb hK hP hD hS 23 0 rfl rfl rfl (by omega) (by decide) dX1_step_62 (fun H locs hP hD hS => ?_)
        have hP : va_P G CLS (MW b J (va_up (va_up E 32 (upd (E 32) ((40 * k) + z) x)) 31 (upd (E 31) k (nI (z + 1)))) d) H := hP
        have hD : va_D A (MW b J (va_up (va_up E 32 (upd (E 32) ((40 * k) + z) x)) 31 (upd (E 31) k (nI (z + 1)))) d) := hD
        refine lv_aload_n hx hb dX1_step_63 rfl (lv_at hl 0 rfl) ?_
        refine va_get (D := G) (ci := 1) (v := .ref (b 31)) (C := RX1) (T := TX1) (N := 33) hx hb hts in_X1 hown hK hP 0 rfl rfl 31 (Nat.le_of_ble_eq_true rfl) (hts _ q917) (fun _ h9 => h9) rfl dX1_step_64 ?_
        refine lv_iload_n hx hb dX1_step_67 rfl (lv_at hl 1 rfl) ?_
        refine y_iald (N := k) (f := (upd (E 31) k (nI (z + 1)))) hx hb hK hP 23 0 rfl rfl rfl (by omega) (by decide) dX1_step_68 ?_
        refine y_top (y := nI (z + 1)) pk_us ?_
        exact W.iret (v := nI (z + 1)) hx hb hr (fun t ht hW => ⟨⟨nI (z + 1), (J, va_up (va_up E 32 (upd (E 32) ((40 * k) + z) x)) 31 (upd (E 31) k (nI (z + 1)))), rfl, by unfold stepOp; rw [if_pos ⟨c_3, c_6⟩, cl_nI (show k < 2 ^ 31 by omega), show (J, E).2 31 k = nI z from hz, cl_nI (show z < 2 ^ 31 by omega), if_neg c_7], by rw [ht]; exact hP, va_K.moved hW.alike hK, hD⟩, hS.F ht⟩) hS.2.2 dX1_step_69
      · have c_7 : z = 40 := (nI_eq (a := z) (b := 40) (by omega) (by omega)).mp c_7
        refine lv_bipush (v := (-2)) hx hb dX1_step_33 (by decide +kernel) ?_
        exact W.iret (v := (-2)) hx hb hr (fun t ht hW => ⟨⟨(-2), (J, E), rfl, by unfold stepOp; rw [if_pos ⟨c_3, c_6⟩, cl_nI (show k < 2 ^ 31 by omega), show (J, E).2 31 k = nI z from hz, cl_nI (show z < 2 ^ 31 by omega), if_pos c_7], by rw [ht]; exact hP, va_K.moved hW.alike hK, hD⟩, hS.F ht⟩) hS.2.2 dX1_step_35
    · have c_6 := bI_eq hr_5 c_6
      refine lv_iconst (v := (-1)) hx hb dX1_step_20 (by decide) ?_
      exact W.iret (v := (-1)) hx hb hr (fun t ht hW => ⟨⟨(-1), (J, E), rfl, (if_neg (fun h => c_6 (h.2))).symm, by rw [ht]; exact hP, va_K.moved hW.alike hK, hD⟩, hS.F ht⟩) hS.2.2 dX1_step_21
set_option maxHeartbeats 400000 in
set_option maxRecDepth 100000 in
theorem metX1_clear (l : Launch) (G : va_G) (d : Nat → Nat) (sz : Nat) (b : Nat → Nat) (J : Nat → Int32) (E : Nat → Nat → Int32) (w : Int32) : Met l yX1_clear (ws_ yX1_clear cX1_clear 3 (some FieldType.int)) ({ frames := 1, cells := 0, slots := 0, locals := 22 } : Room) (va_Pc [.ref (b 0), .int w] (pW G d sz (MW b J E d))) (va_Qi (fun (r : Int32) (u : MS) => (r, u) = clearOp 31 (J, E) w) (fun (u : MS) t => bW G d (va_A (MW b J E d) sz) (MW b u.1 u.2 d) t) (va_A (MW b J E d) sz)) 0 0 (va_A (MW b J E d) sz) := by
  refine Met.ofW (cc := cX1_clear) (maxL := 3) (ret := (some FieldType.int)) (by decide) rfl ?_
  intro p e s m args below meth c s₁ B hml hv
  obtain ⟨rfl, hsz, hP, hK, hD0⟩ := hv
  have hx := B.exec
  have hb := B.bytes
  have hr := B.returns
  have hts := atoms_spec (ws := (ws_ yX1_clear cX1_clear 3 (some FieldType.int))) B.pre
  have hts : ∀ w ∈ lw_all, w.before _ s = true := fun w h => hts w (List.mem_cons_of_mem _ h)
  have hown : s.vm.findClass RX1 = some m.cls := findClass_of_methodNamed B.named
  have hlocks := B.notSynchronized
  subst hsz
  have hD := hD0.self (sz := s.heap.size)
  generalize hAe : va_A (MW b J E d) s.heap.size = A at hD ⊢
  have hA : ∀ q : Nat, s.heap.size ≤ q → A q := fun q h => by rw [← hAe]; exact Or.inr h
  have hS : va_S A s.heap s.heap [] := va_S.rf
  have hl := lv_entry ([.ref (b 0), .int w]) (n := 3) (Nat.le_of_ble_eq_true rfl)
  rw [lg_entry_eq]
  generalize (lg_sl ([.ref (b 0), .int w]) ++ List.replicate (3 - (lg_sl ([.ref (b 0), .int w])).length) Slot.unset).toArray = ls at hl ⊢
  have hl : lv_has ls 3 [(0, .ref (b 0)), (1, .int w)] := hl
  have hP : va_P G CLS (MW b J E d) s.heap := hP
  refine lv_iload_n hx hb dX1_clear_0 rfl (lv_at hl 1 rfl) ?_
  refine lv_iconst (v := 0) hx hb dX1_clear_1 (by decide) ?_
  refine lv_iconst (v := 1) hx hb dX1_clear_2 (by decide) ?_
  refine y_rS (As := [.int w, .int 0, .int 1]) (rest := []) ⟨hx, hb, hml, hown, hts⟩ hK (ws := []) (fun _ _ h => by cases h) (metX1_in l G d w 0 1) (va_cwS 3 hts (lw_S q994 q995 q39 q996) rfl rfl rfl (by decide +kernel) ⟨Nat.le_of_ble_eq_true rfl, Nat.le_of_ble_eq_true rfl⟩) rfl hl.1 rfl (lv_room (Nat.le_of_ble_eq_true rfl)) dX1_clear_3 ⟨Nat.le_of_ble_eq_true rfl, Nat.le_of_ble_eq_true rfl⟩ (fun r_1 hr_2 => ?_)
  refine lv_if_ne (tgt := 11) hx hb dX1_clear_6 (by decide) (fun c_3 => ?_) (fun c_3 => ?_)
  · have c_3 := bI_ne hr_2 c_3
    obtain ⟨k, hk, rfl⟩ := inR_n (n := 1) (by decide) c_3
    refine lv_aload_n hx hb dX1_clear_11 rfl (lv_at hl 0 rfl) ?_
    refine va_get (D := G) (ci := 1) (v := .ref (b 31)) (C := RX1) (T := TX1) (N := 33) hx hb hts in_X1 hown hK hP 0 rfl rfl 31 (Nat.le_of_ble_eq_true rfl) (hts _ q917) (fun _ h9 => h9) rfl dX1_clear_12 ?_
    refine lv_iload_n hx hb dX1_clear_15 rfl (lv_at hl 1 rfl) ?_
    refine y_iald (N := k) (f := E 31) hx hb hK hP 23 0 rfl rfl rfl (by omega) (by decide) dX1_clear_16 ?_
    refine lv_istore_n (lv' := [(2, .int ((E 31) k)), (0, .ref (b 0)), (1, .int (nI k))]) hx hb dX1_clear_17 rfl hl (Nat.le_of_ble_eq_true rfl) rfl (fun ls hl => ?_)
    refine lv_aload_n hx hb dX1_clear_18 rfl (lv_at hl 1 rfl) ?_
    refine va_get (D := G) (ci := 1) (v := .ref (b 31)) (C := RX1) (T := TX1) (N := 33) hx hb hts in_X1 hown hK hP 0 rfl rfl 31 (Nat.le_of_ble_eq_true rfl) (hts _ q917) (fun _ h9 => h9) rfl dX1_clear_19 ?_
    refine lv_iload_n hx hb dX1_clear_22 rfl (lv_at hl 2 rfl) ?_
    refine lv_iconst (v := 0) hx hb dX1_clear_23 (by decide) ?_
    refine y_iast (N := k) (f := E 31) hx hb hK hP hD hS 23 0 rfl rfl rfl (by omega) (by decide) dX1_clear_24 (fun H locs hP hD hS => ?_)
    have hP : va_P G CLS (MW b J (va_up E 31 (upd (E 31) k 0)) d) H := hP
    have hD : va_D A (MW b J (va_up E 31 (upd (E 31) k 0)) d) := hD
    refine lv_iload_n hx hb dX1_clear_25 rfl (lv_at hl 0 rfl) ?_
    exact W.iret (v := (E 31) k) hx hb hr (fun t ht hW => ⟨⟨(E 31) k, (J, va_up E 31 (upd (E 31) k 0)), rfl, by unfold clearOp; rw [if_pos c_3, cl_nI (show k < 2 ^ 31 by omega)], by rw [ht]; exact hP, va_K.moved hW.alike hK, hD⟩, hS.F ht⟩) hS.2.2 dX1_clear_26
  · have c_3 := bI_eq hr_2 c_3
    refine lv_iconst (v := (-1)) hx hb dX1_clear_9 (by decide) ?_
    exact W.iret (v := (-1)) hx hb hr (fun t ht hW => ⟨⟨(-1), (J, E), rfl, (if_neg c_3).symm, by rw [ht]; exact hP, va_K.moved hW.alike hK, hD⟩, hS.F ht⟩) hS.2.2 dX1_clear_10
set_option maxHeartbeats 400000 in
set_option maxRecDepth 100000 in
theorem metX1_meanLoad (l : Launch) (G : va_G) (d : Nat → Nat) (sz : Nat) (b : Nat → Nat) (J : Nat → Int32) (E : Nat → Nat → Int32) (w : Int32) (hsz : ∀ w, w < 2 → ∃ z, z ≤ 40 ∧ E 31 w = nI z) : Met l yX1_meanLoad (ws_ yX1_meanLoad cX1_meanLoad 4 (some FieldType.int)) ({ frames := 1, cells := 0, slots := 0, locals := 22 } : Room) (va_Pc [.ref (b 0), .int w] (pW G d sz (MW b J E d))) (va_Qi (fun (r : Int32) (u : MS) => (r, u) = meanLoadOp 31 32 (J, E) w) (fun (u : MS) t => bW G d (va_A (MW b J E d) sz) (MW b u.1 u.2 d) t) (va_A (MW b J E d) sz)) 0 0 (va_A (MW b J E d) sz) := by
  refine Met.ofW (cc := cX1_meanLoad) (maxL := 4) (ret := (some FieldType.int)) (by decide) rfl ?_
  intro p e s m args below meth c s₁ B hml hv
  obtain ⟨rfl, hsz, hP, hK, hD0⟩ := hv
  have hx := B.exec
  have hb := B.bytes
  have hr := B.returns
  have hts := atoms_spec (ws := (ws_ yX1_meanLoad cX1_meanLoad 4 (some FieldType.int))) B.pre
  have hts : ∀ w ∈ lw_all, w.before _ s = true := fun w h => hts w (List.mem_cons_of_mem _ h)
  have hown : s.vm.findClass RX1 = some m.cls := findClass_of_methodNamed B.named
  have hlocks := B.notSynchronized
  subst hsz
  have hD := hD0.self (sz := s.heap.size)
  generalize hAe : va_A (MW b J E d) s.heap.size = A at hD ⊢
  have hA : ∀ q : Nat, s.heap.size ≤ q → A q := fun q h => by rw [← hAe]; exact Or.inr h
  have hS : va_S A s.heap s.heap [] := va_S.rf
  have hl := lv_entry ([.ref (b 0), .int w]) (n := 4) (Nat.le_of_ble_eq_true rfl)
  rw [lg_entry_eq]
  generalize (lg_sl ([.ref (b 0), .int w]) ++ List.replicate (4 - (lg_sl ([.ref (b 0), .int w])).length) Slot.unset).toArray = ls at hl ⊢
  have hl : lv_has ls 4 [(0, .ref (b 0)), (1, .int w)] := hl
  have hP : va_P G CLS (MW b J E d) s.heap := hP
  refine lv_iload_n hx hb dX1_meanLoad_0 rfl (lv_at hl 1 rfl) ?_
  refine lv_iconst (v := 0) hx hb dX1_meanLoad_1 (by decide) ?_
  refine lv_iconst (v := 1) hx hb dX1_meanLoad_2 (by decide) ?_
  refine y_rS (As := [.int w, .int 0, .int 1]) (rest := []) ⟨hx, hb, hml, hown, hts⟩ hK (ws := []) (fun _ _ h => by cases h) (metX1_in l G d w 0 1) (va_cwS 3 hts (lw_S q994 q995 q39 q996) rfl rfl rfl (by decide +kernel) ⟨Nat.le_of_ble_eq_true rfl, Nat.le_of_ble_eq_true rfl⟩) rfl hl.1 rfl (lv_room (Nat.le_of_ble_eq_true rfl)) dX1_meanLoad_3 ⟨Nat.le_of_ble_eq_true rfl, Nat.le_of_ble_eq_true rfl⟩ (fun r_1 hr_2 => ?_)
  refine lv_if_ne (tgt := 11) hx hb dX1_meanLoad_6 (by decide) (fun c_3 => ?_) (fun c_3 => ?_)
  · have c_3 := bI_ne hr_2 c_3
    obtain ⟨k, hk, rfl⟩ := inR_n (n := 1) (by decide) c_3
    obtain ⟨z, hz40, hz⟩ := hsz k (by omega)
    refine lv_iconst (v := 0) hx hb dX1_meanLoad_11 (by decide) ?_
    refine lv_istore_n (lv' := [(2, .int 0), (0, .ref (b 0)), (1, .int (nI k))]) hx hb dX1_meanLoad_12 rfl hl (Nat.le_of_ble_eq_true rfl) rfl (fun ls hl => ?_)
    refine lv_iconst (v := 0) hx hb dX1_meanLoad_13 (by decide) ?_
    refine lv_istore_n (lv' := [(3, .int 0), (2, .int 0), (0, .ref (b 0)), (1, .int (nI k))]) hx hb dX1_meanLoad_14 rfl hl (Nat.le_of_ble_eq_true rfl) rfl (fun ls hl => ?_)
    have lp_4 : ∀ (fu : Nat) (i : Nat) (sm : Int32) (hi : i ≤ z) (hm : z < i + fu) (hs : sm = sumR (fun i => E 32 (40 * k + i)) i) (ls : Array Slot) (hl : lv_has ls 4 [(3, .int (nI i)), (2, .int sm), (0, .ref (b 0)), (1, .int (nI k))]), W p l e (headSpec (ws_ yX1_meanLoad cX1_meanLoad 4 (some FieldType.int)) ({ frames := 1, cells := 0, slots := 0, locals := 22 } : Room)).room s m ([.ref (b 0), .int (nI k)] : List Value).toArray below meth c s.heap [] 0 0 (MQ below (va_Qi (fun (r : Int32) (u : MS) => (r, u) = meanLoadOp 31 32 (J, E) (nI k)) (fun (u : MS) t => bW G d A (MW b u.1 u.2 d) t) A) ([.ref (b 0), .int (nI k)] : List Value).toArray s 0 0 A) (F0 m 15 ls []) := by
      intro fu
      induction fu with
      | zero =>
        intro i sm hi hm hs ls hl
        exfalso; omega
      | succ fu ih_lp_4 =>
        intro i sm hi hm hs ls hl
        refine lv_iload_n hx hb dX1_meanLoad_15 rfl (lv_at hl 0 rfl) ?_
        refine lv_aload_n hx hb dX1_meanLoad_16 rfl (lv_at hl 2 rfl) ?_
        refine va_get (D := G) (ci := 1) (v := .ref (b 31)) (C := RX1) (T := TX1) (N := 33) hx hb hts in_X1 hown hK hP 0 rfl rfl 31 (Nat.le_of_ble_eq_true rfl) (hts _ q917) (fun _ h9 => h9) rfl dX1_meanLoad_17 ?_
        refine lv_iload_n hx hb dX1_meanLoad_20 rfl (lv_at hl 3 rfl) ?_
        refine y_iald (N := k) (f := E 31) hx hb hK hP 23 0 rfl rfl rfl (by omega) (by decide) dX1_meanLoad_21 ?_
        refine y_top (y := nI z) hz ?_
        refine lv_icmp_ge (tgt := 45) hx hb dX1_meanLoad_22 (by decide) (fun c_5 => ?_) (fun c_5 => ?_)
        · have c_5 : z ≤ i := (nI_leI (a := z) (b := i) (by omega) (by omega)).mp c_5
          refine lv_aload_n hx hb dX1_meanLoad_45 rfl (lv_at hl 2 rfl) ?_
          refine va_get (D := G) (ci := 1) (v := .ref (b 31)) (C := RX1) (T := TX1) (N := 33) hx hb hts in_X1 hown hK hP 0 rfl rfl 31 (Nat.le_of_ble_eq_true rfl) (hts _ q917) (fun _ h9 => h9) rfl dX1_meanLoad_46 ?_
          refine lv_iload_n hx hb dX1_meanLoad_49 rfl (lv_at hl 3 rfl) ?_
          refine y_iald (N := k) (f := E 31) hx hb hK hP 23 0 rfl rfl rfl (by omega) (by decide) dX1_meanLoad_50 ?_
          refine y_top (y := nI z) hz ?_
          refine lv_if_ne (tgt := 62) hx hb dX1_meanLoad_51 (by decide) (fun c_6 => ?_) (fun c_6 => ?_)
          · have c_6 : ¬ z = 0 := fun h => c_6 ((nI_eq (a := z) (b := 0) (by omega) (by omega)).mpr h)
            refine lv_iload_n hx hb dX1_meanLoad_62 rfl (lv_at hl 1 rfl) ?_
            refine lv_aload_n hx hb dX1_meanLoad_63 rfl (lv_at hl 2 rfl) ?_
            refine va_get (D := G) (ci := 1) (v := .ref (b 31)) (C := RX1) (T := TX1) (N := 33) hx hb hts in_X1 hown hK hP 0 rfl rfl 31 (Nat.le_of_ble_eq_true rfl) (hts _ q917) (fun _ h9 => h9) rfl dX1_meanLoad_64 ?_
            refine lv_iload_n hx hb dX1_meanLoad_67 rfl (lv_at hl 3 rfl) ?_
            refine y_iald (N := k) (f := E 31) hx hb hK hP 23 0 rfl rfl rfl (by omega) (by decide) dX1_meanLoad_68 ?_
            refine y_top (y := nI z) hz ?_
            refine lv_idiv hx hb dX1_meanLoad_69 (nI_ne0 (by omega) (by omega)) ?_
            exact W.iret (v := sm / (nI z)) hx hb hr (fun t ht hW => ⟨⟨sm / (nI z), (J, E), rfl, by unfold meanLoadOp; rw [if_neg (not_not_intro c_3), cl_nI (show k < 2 ^ 31 by omega), show (J, E).2 31 k = nI z from hz, cl_nI (show z < 2 ^ 31 by omega), if_neg c_6, hs, show i = z by omega], by rw [ht]; exact hP, va_K.moved hW.alike hK, hD⟩, hS.F ht⟩) hS.2.2 dX1_meanLoad_70
          · have c_6 : z = 0 := (nI_eq (a := z) (b := 0) (by omega) (by omega)).mp c_6
            refine lv_aload_n hx hb dX1_meanLoad_54 rfl (lv_at hl 2 rfl) ?_
            refine lv_iconst (v := 4) hx hb dX1_meanLoad_55 (by decide) ?_
            refine y_cVi (As := [.int 4]) (rest := []) (ci := 1) (q0 := 0) ⟨hx, hb, hml, hown, hts⟩ hK hP hD hS hA (metX1_meets l G d s.heap.size b J E 4 (by omega)) (cwV 1 hts (lw_V q1005 q1007 qs19 q39 q1008) rfl rfl rfl (by decide +kernel) ⟨Nat.le_of_ble_eq_true rfl, Nat.le_of_ble_eq_true rfl⟩) rfl rfl rfl hl.1 rfl (lv_room (Nat.le_of_ble_eq_true rfl)) dX1_meanLoad_56 ⟨Nat.le_of_ble_eq_true rfl, Nat.le_of_ble_eq_true rfl⟩ (fun r_7 u_9 H locs hw_8 hP hD hS => ?_)
            obtain ⟨rfl, rfl⟩ := hw_8
            refine lv_goto (tgt := 70) hx hb dX1_meanLoad_59 (by decide) ?_
            exact W.iret (v := (-3)) hx hb hr (fun t ht hW => ⟨⟨(-3), (uFind (J, E) 4), rfl, by unfold meanLoadOp; rw [if_neg (not_not_intro c_3), cl_nI (show k < 2 ^ 31 by omega), show (J, E).2 31 k = nI z from hz, cl_nI (show z < 2 ^ 31 by omega), if_pos c_6], by rw [ht]; exact hP, va_K.moved hW.alike hK, hD⟩, hS.F ht⟩) hS.2.2 dX1_meanLoad_70
        · have c_5 : ¬ z ≤ i := fun h => c_5 ((nI_leI (a := z) (b := i) (by omega) (by omega)).mpr h)
          refine lv_iload_n hx hb dX1_meanLoad_25 rfl (lv_at hl 1 rfl) ?_
          refine lv_aload_n hx hb dX1_meanLoad_26 rfl (lv_at hl 2 rfl) ?_
          refine va_get (D := G) (ci := 1) (v := .ref (b 32)) (C := RX1) (T := TX1) (N := 33) hx hb hts in_X1 hown hK hP 0 rfl rfl 32 (Nat.le_of_ble_eq_true rfl) (hts _ q918) (fun _ h9 => h9) rfl dX1_meanLoad_27 ?_
          refine lv_bipush (v := 40) hx hb dX1_meanLoad_30 (by decide +kernel) ?_
          refine lv_iload_n hx hb dX1_meanLoad_32 rfl (lv_at hl 3 rfl) ?_
          refine lv_imul hx hb dX1_meanLoad_33 ?_
          refine y_top (y := nI (40 * k)) (pk_mul 40 k) ?_
          refine lv_iload_n hx hb dX1_meanLoad_34 rfl (lv_at hl 0 rfl) ?_
          refine lv_iadd hx hb dX1_meanLoad_35 ?_
          refine y_top (y := nI ((40 * k) + i)) (nI_add (40 * k) i) ?_
          refine y_iald (N := (40 * k) + i) (f := E 32) hx hb hK hP 24 0 rfl rfl rfl (by omega) (by decide) dX1_meanLoad_36 ?_
          refine lv_iadd hx hb dX1_meanLoad_37 ?_
          refine lv_istore_n (lv' := [(2, .int (sm + ((E 32) ((40 * k) + i)))), (3, .int (nI i)), (0, .ref (b 0)), (1, .int (nI k))]) hx hb dX1_meanLoad_38 rfl hl (Nat.le_of_ble_eq_true rfl) rfl (fun ls hl => ?_)
          refine lv_iinc (v := nI (i + 1)) (lv' := [(3, .int (nI (i + 1))), (2, .int (sm + ((E 32) ((40 * k) + i)))), (0, .ref (b 0)), (1, .int (nI k))]) hx hb dX1_meanLoad_39 hl (k := 1) rfl (nI_add i 1) (Nat.le_of_ble_eq_true rfl) rfl (fun ls hl => ?_)
          refine lv_goto (tgt := 15) hx hb dX1_meanLoad_42 (by decide) ?_
          exact ih_lp_4 (i + 1) _ (by omega) (by omega) (by rw [hs]; rfl) ls (lv_sub hl [0, 1, 2, 3] rfl)
    exact lp_4 41 0 _ (by omega) (by omega) rfl ls (lv_sub hl [0, 1, 2, 3] rfl)
  · have c_3 := bI_eq hr_2 c_3
    refine lv_iconst (v := (-1)) hx hb dX1_meanLoad_9 (by decide) ?_
    exact W.iret (v := (-1)) hx hb hr (fun t ht hW => ⟨⟨(-1), (J, E), rfl, (if_pos c_3).symm, by rw [ht]; exact hP, va_K.moved hW.alike hK, hD⟩, hS.F ht⟩) hS.2.2 dX1_meanLoad_10
set_option maxHeartbeats 400000 in
set_option maxRecDepth 100000 in
theorem metX1_tellsCount (l : Launch) (G : va_G) (d : Nat → Nat) (b : Nat → Nat) (J : Nat → Int32) (E : Nat → Nat → Int32) (rn pn mn en w : Nat) (h6 : J 6 = nI rn) (h13 : J 13 = nI pn) (h27 : J 27 = nI mn) (h11 : J 11 = nI en) (hp16 : pn ≤ 16) (hw6 : w < 6) : Met l yX1_tellsCount (ws_ yX1_tellsCount cX1_tellsCount 4 (some FieldType.int)) ({ frames := 0, cells := 0, slots := 0, locals := 0 } : Room) (va_Pc [.ref (b 0), .int (nI w)] (pR G d (MW b J E d))) (vp_Si (fun x => x = countV (E 3) (E 21) rn pn mn en (nI w))) 0 0 (fun _ => False) := by
  refine Met.ofW (cc := cX1_tellsCount) (maxL := 4) (ret := (some FieldType.int)) (by decide) rfl ?_
  intro p e s m args below meth c s₁ B hml hv
  obtain ⟨rfl, hP, hK⟩ := hv
  have hx := B.exec
  have hb := B.bytes
  have hr := B.returns
  have hts := atoms_spec (ws := (ws_ yX1_tellsCount cX1_tellsCount 4 (some FieldType.int))) B.pre
  have hts : ∀ w ∈ lw_all, w.before _ s = true := fun w h => hts w (List.mem_cons_of_mem _ h)
  have hown : s.vm.findClass RX1 = some m.cls := findClass_of_methodNamed B.named
  have hlocks := B.notSynchronized
  have hl := lv_entry ([.ref (b 0), .int (nI w)]) (n := 4) (Nat.le_of_ble_eq_true rfl)
  rw [lg_entry_eq]
  generalize (lg_sl ([.ref (b 0), .int (nI w)]) ++ List.replicate (4 - (lg_sl ([.ref (b 0), .int (nI w)])).length) Slot.unset).toArray = ls at hl ⊢
  have hl : lv_has ls 4 [(0, .ref (b 0)), (1, .int (nI w))] := hl
  refine lv_iconst (v := 0) hx hb dX1_tellsCount_0 (by decide) ?_
  refine lv_istore_n (lv' := [(2, .int 0), (0, .ref (b 0)), (1, .int (nI w))]) hx hb dX1_tellsCount_1 rfl hl (Nat.le_of_ble_eq_true rfl) rfl (fun ls hl => ?_)
  refine lv_iload_n hx hb dX1_tellsCount_2 rfl (lv_at hl 2 rfl) ?_
  have hcs : w = 0 ∨ w = 1 ∨ w = 2 ∨ w = 3 ∨ w = 4 ∨ w = 5 := by omega
  rcases hcs with rfl | rfl | rfl | rfl | rfl | rfl
  · refine lv_tableIn (off := 33) (tgt := 36) hx hb dX1_tellsCount_3 (by decide +kernel) (by decide +kernel) (by decide +kernel) (by decide) ?_
    refine lv_iconst (v := 0) hx hb dX1_tellsCount_36 (by decide) ?_
    refine lv_istore_n (lv' := [(3, .int 0), (2, .int (nI 0)), (0, .ref (b 0)), (1, .int (nI 0))]) hx hb dX1_tellsCount_37 rfl hl (Nat.le_of_ble_eq_true rfl) rfl (fun ls hl => ?_)
    have lp_1 : ∀ (fu : Nat) (i : Nat) (sm : Int32) (hi : i ≤ 4) (hm : 4 < i + fu) (hs : sm = sumR (fun k => bI (¬ E 3 k = 0)) i) (ls : Array Slot) (hl : lv_has ls 4 [(3, .int (nI i)), (2, .int sm), (0, .ref (b 0)), (1, .int (nI 0))]), W p l e (headSpec (ws_ yX1_tellsCount cX1_tellsCount 4 (some FieldType.int)) ({ frames := 0, cells := 0, slots := 0, locals := 0 } : Room)).room s m ([.ref (b 0), .int (nI 0)] : List Value).toArray below meth c s.heap [] 0 0 (MQ below (vp_Si (fun x => x = countV (E 3) (E 21) rn pn mn en (nI 0))) ([.ref (b 0), .int (nI 0)] : List Value).toArray s 0 0 (fun _ => False)) (F0 m 38 ls []) := by
      intro fu
      induction fu with
      | zero =>
        intro i sm hi hm hs ls hl
        exfalso; omega
      | succ fu ih_lp_1 =>
        intro i sm hi hm hs ls hl
        refine lv_iload_n hx hb dX1_tellsCount_38 rfl (lv_at hl 0 rfl) ?_
        refine lv_iconst (v := 4) hx hb dX1_tellsCount_39 (by decide) ?_
        refine lv_icmp_ge (tgt := 66) hx hb dX1_tellsCount_40 (by decide) (fun c_2 => ?_) (fun c_2 => ?_)
        · have c_2 : 4 ≤ i := (nI_leI (a := 4) (b := i) (by omega) (by omega)).mp c_2
          refine lv_iload_n hx hb dX1_tellsCount_66 rfl (lv_at hl 1 rfl) ?_
          exact W.iret (v := sm) hx hb hr (fun t ht hW => ⟨sm, rfl, by rw [countV, if_pos (by decide), hs, show i = 4 by omega], ht⟩) (fun q h => by cases h) dX1_tellsCount_67
        · have c_2 : ¬ 4 ≤ i := fun h => c_2 ((nI_leI (a := 4) (b := i) (by omega) (by omega)).mpr h)
          refine lv_iload_n hx hb dX1_tellsCount_43 rfl (lv_at hl 1 rfl) ?_
          refine lv_aload_n hx hb dX1_tellsCount_44 rfl (lv_at hl 2 rfl) ?_
          refine va_get (D := G) (ci := 1) (v := .ref (b 3)) (C := RX1) (T := TX1) (N := 33) hx hb hts in_X1 hown hK hP 0 rfl rfl 3 (Nat.le_of_ble_eq_true rfl) (hts _ q889) (fun _ h9 => h9) rfl dX1_tellsCount_45 ?_
          refine lv_iload_n hx hb dX1_tellsCount_48 rfl (lv_at hl 0 rfl) ?_
          refine y_zald (N := i) (f := E 3) hx hb hK hP 2 1 rfl rfl rfl (by omega) (by decide) dX1_tellsCount_49 ?_
          refine lv_if_eq (tgt := 57) hx hb dX1_tellsCount_50 (by decide) (fun c_3 => ?_) (fun c_3 => ?_)
          · refine lv_iconst (v := 0) hx hb dX1_tellsCount_57 (by decide) ?_
            refine lv_iadd hx hb dX1_tellsCount_58 ?_
            refine lv_istore_n (lv' := [(2, .int (sm + 0)), (3, .int (nI i)), (0, .ref (b 0)), (1, .int (nI 0))]) hx hb dX1_tellsCount_59 rfl hl (Nat.le_of_ble_eq_true rfl) rfl (fun ls hl => ?_)
            refine lv_iinc (v := nI (i + 1)) (lv' := [(3, .int (nI (i + 1))), (2, .int (sm + 0)), (0, .ref (b 0)), (1, .int (nI 0))]) hx hb dX1_tellsCount_60 hl (k := 1) rfl (nI_add i 1) (Nat.le_of_ble_eq_true rfl) rfl (fun ls hl => ?_)
            refine lv_goto (tgt := 38) hx hb dX1_tellsCount_63 (by decide) ?_
            exact ih_lp_1 (i + 1) _ (by omega) (by omega) (by rw [hs]; show _ = sumR (fun k => bI (¬ E 3 k = 0)) i + bI (¬ E 3 i = 0); rw [bI_f (not_not_intro c_3)]) ls (lv_sub hl [0, 1, 2, 3] rfl)
          · refine lv_iconst (v := 1) hx hb dX1_tellsCount_53 (by decide) ?_
            refine lv_goto (tgt := 58) hx hb dX1_tellsCount_54 (by decide) ?_
            refine lv_iadd hx hb dX1_tellsCount_58 ?_
            refine lv_istore_n (lv' := [(2, .int (sm + 1)), (3, .int (nI i)), (0, .ref (b 0)), (1, .int (nI 0))]) hx hb dX1_tellsCount_59 rfl hl (Nat.le_of_ble_eq_true rfl) rfl (fun ls hl => ?_)
            refine lv_iinc (v := nI (i + 1)) (lv' := [(3, .int (nI (i + 1))), (2, .int (sm + 1)), (0, .ref (b 0)), (1, .int (nI 0))]) hx hb dX1_tellsCount_60 hl (k := 1) rfl (nI_add i 1) (Nat.le_of_ble_eq_true rfl) rfl (fun ls hl => ?_)
            refine lv_goto (tgt := 38) hx hb dX1_tellsCount_63 (by decide) ?_
            exact ih_lp_1 (i + 1) _ (by omega) (by omega) (by rw [hs]; show _ = sumR (fun k => bI (¬ E 3 k = 0)) i + bI (¬ E 3 i = 0); rw [bI_t c_3]) ls (lv_sub hl [0, 1, 2, 3] rfl)
    exact lp_1 5 0 _ (by omega) (by omega) rfl ls (lv_sub hl [0, 1, 2, 3] rfl)
  · refine lv_tableIn (off := 65) (tgt := 68) hx hb dX1_tellsCount_3 (by decide +kernel) (by decide +kernel) (by decide +kernel) (by decide) ?_
    refine lv_aload_n hx hb dX1_tellsCount_68 rfl (lv_at hl 1 rfl) ?_
    refine va_get (D := G) (ci := 1) (v := .int (J 6)) (C := RX1) (T := TX1) (N := 33) hx hb hts in_X1 hown hK hP 0 rfl rfl 6 (Nat.le_of_ble_eq_true rfl) (hts _ q892) (fun _ h9 => h9) rfl dX1_tellsCount_69 ?_
    refine y_top (y := nI rn) h6 ?_
    exact W.iret (v := nI rn) hx hb hr (fun t ht hW => ⟨nI rn, rfl, by rw [countV, if_neg (by decide), if_pos (by decide)], ht⟩) (fun q h => by cases h) dX1_tellsCount_72
  · refine lv_tableIn (off := 70) (tgt := 73) hx hb dX1_tellsCount_3 (by decide +kernel) (by decide +kernel) (by decide +kernel) (by decide) ?_
    refine lv_aload_n hx hb dX1_tellsCount_73 rfl (lv_at hl 1 rfl) ?_
    refine va_get (D := G) (ci := 1) (v := .int (J 13)) (C := RX1) (T := TX1) (N := 33) hx hb hts in_X1 hown hK hP 0 rfl rfl 13 (Nat.le_of_ble_eq_true rfl) (hts _ q899) (fun _ h9 => h9) rfl dX1_tellsCount_74 ?_
    refine y_top (y := nI pn) h13 ?_
    exact W.iret (v := nI pn) hx hb hr (fun t ht hW => ⟨nI pn, rfl, by rw [countV, if_neg (by decide), if_neg (by decide), if_pos (by decide)], ht⟩) (fun q h => by cases h) dX1_tellsCount_77
  · refine lv_tableIn (off := 75) (tgt := 78) hx hb dX1_tellsCount_3 (by decide +kernel) (by decide +kernel) (by decide +kernel) (by decide) ?_
    refine lv_iconst (v := 0) hx hb dX1_tellsCount_78 (by decide) ?_
    refine lv_istore_n (lv' := [(3, .int 0), (2, .int 0), (0, .ref (b 0)), (1, .int (nI 3))]) hx hb dX1_tellsCount_79 rfl hl (Nat.le_of_ble_eq_true rfl) rfl (fun ls hl => ?_)
    have lp_4 : ∀ (fu : Nat) (i : Nat) (sm : Int32) (hi : i ≤ pn) (hm : pn < i + fu) (hs : sm = sumR (fun k => bI (¬ E 21 k = 0)) i) (ls : Array Slot) (hl : lv_has ls 4 [(3, .int (nI i)), (2, .int sm), (0, .ref (b 0)), (1, .int (nI 3))]), W p l e (headSpec (ws_ yX1_tellsCount cX1_tellsCount 4 (some FieldType.int)) ({ frames := 0, cells := 0, slots := 0, locals := 0 } : Room)).room s m ([.ref (b 0), .int (nI 3)] : List Value).toArray below meth c s.heap [] 0 0 (MQ below (vp_Si (fun x => x = countV (E 3) (E 21) rn pn mn en (nI 3))) ([.ref (b 0), .int (nI 3)] : List Value).toArray s 0 0 (fun _ => False)) (F0 m 80 ls []) := by
      intro fu
      induction fu with
      | zero =>
        intro i sm hi hm hs ls hl
        exfalso; omega
      | succ fu ih_lp_4 =>
        intro i sm hi hm hs ls hl
        refine lv_iload_n hx hb dX1_tellsCount_80 rfl (lv_at hl 0 rfl) ?_
        refine lv_aload_n hx hb dX1_tellsCount_81 rfl (lv_at hl 2 rfl) ?_
        refine va_get (D := G) (ci := 1) (v := .int (J 13)) (C := RX1) (T := TX1) (N := 33) hx hb hts in_X1 hown hK hP 0 rfl rfl 13 (Nat.le_of_ble_eq_true rfl) (hts _ q899) (fun _ h9 => h9) rfl dX1_tellsCount_82 ?_
        refine y_top (y := nI pn) h13 ?_
        refine lv_icmp_ge (tgt := 111) hx hb dX1_tellsCount_85 (by decide) (fun c_5 => ?_) (fun c_5 => ?_)
        · have c_5 : pn ≤ i := (nI_leI (a := pn) (b := i) (by omega) (by omega)).mp c_5
          refine lv_iload_n hx hb dX1_tellsCount_111 rfl (lv_at hl 1 rfl) ?_
          exact W.iret (v := sm) hx hb hr (fun t ht hW => ⟨sm, rfl, by rw [countV, if_neg (by decide), if_neg (by decide), if_neg (by decide), if_pos (by decide), hs, show i = pn by omega], ht⟩) (fun q h => by cases h) dX1_tellsCount_112
        · have c_5 : ¬ pn ≤ i := fun h => c_5 ((nI_leI (a := pn) (b := i) (by omega) (by omega)).mpr h)
          refine lv_iload_n hx hb dX1_tellsCount_88 rfl (lv_at hl 1 rfl) ?_
          refine lv_aload_n hx hb dX1_tellsCount_89 rfl (lv_at hl 2 rfl) ?_
          refine va_get (D := G) (ci := 1) (v := .ref (b 21)) (C := RX1) (T := TX1) (N := 33) hx hb hts in_X1 hown hK hP 0 rfl rfl 21 (Nat.le_of_ble_eq_true rfl) (hts _ q907) (fun _ h9 => h9) rfl dX1_tellsCount_90 ?_
          refine lv_iload_n hx hb dX1_tellsCount_93 rfl (lv_at hl 0 rfl) ?_
          refine y_zald (N := i) (f := E 21) hx hb hK hP 17 1 rfl rfl rfl (by omega) (by decide) dX1_tellsCount_94 ?_
          refine lv_if_eq (tgt := 102) hx hb dX1_tellsCount_95 (by decide) (fun c_6 => ?_) (fun c_6 => ?_)
          · refine lv_iconst (v := 0) hx hb dX1_tellsCount_102 (by decide) ?_
            refine lv_iadd hx hb dX1_tellsCount_103 ?_
            refine lv_istore_n (lv' := [(2, .int (sm + 0)), (3, .int (nI i)), (0, .ref (b 0)), (1, .int (nI 3))]) hx hb dX1_tellsCount_104 rfl hl (Nat.le_of_ble_eq_true rfl) rfl (fun ls hl => ?_)
            refine lv_iinc (v := nI (i + 1)) (lv' := [(3, .int (nI (i + 1))), (2, .int (sm + 0)), (0, .ref (b 0)), (1, .int (nI 3))]) hx hb dX1_tellsCount_105 hl (k := 1) rfl (nI_add i 1) (Nat.le_of_ble_eq_true rfl) rfl (fun ls hl => ?_)
            refine lv_goto (tgt := 80) hx hb dX1_tellsCount_108 (by decide) ?_
            exact ih_lp_4 (i + 1) _ (by omega) (by omega) (by rw [hs]; show _ = sumR (fun k => bI (¬ E 21 k = 0)) i + bI (¬ E 21 i = 0); rw [bI_f (not_not_intro c_6)]) ls (lv_sub hl [0, 1, 2, 3] rfl)
          · refine lv_iconst (v := 1) hx hb dX1_tellsCount_98 (by decide) ?_
            refine lv_goto (tgt := 103) hx hb dX1_tellsCount_99 (by decide) ?_
            refine lv_iadd hx hb dX1_tellsCount_103 ?_
            refine lv_istore_n (lv' := [(2, .int (sm + 1)), (3, .int (nI i)), (0, .ref (b 0)), (1, .int (nI 3))]) hx hb dX1_tellsCount_104 rfl hl (Nat.le_of_ble_eq_true rfl) rfl (fun ls hl => ?_)
            refine lv_iinc (v := nI (i + 1)) (lv' := [(3, .int (nI (i + 1))), (2, .int (sm + 1)), (0, .ref (b 0)), (1, .int (nI 3))]) hx hb dX1_tellsCount_105 hl (k := 1) rfl (nI_add i 1) (Nat.le_of_ble_eq_true rfl) rfl (fun ls hl => ?_)
            refine lv_goto (tgt := 80) hx hb dX1_tellsCount_108 (by decide) ?_
            exact ih_lp_4 (i + 1) _ (by omega) (by omega) (by rw [hs]; show _ = sumR (fun k => bI (¬ E 21 k = 0)) i + bI (¬ E 21 i = 0); rw [bI_t c_6]) ls (lv_sub hl [0, 1, 2, 3] rfl)
    exact lp_4 17 0 _ (by omega) (by omega) rfl ls (lv_sub hl [0, 1, 2, 3] rfl)
  · refine lv_tableIn (off := 110) (tgt := 113) hx hb dX1_tellsCount_3 (by decide +kernel) (by decide +kernel) (by decide +kernel) (by decide) ?_
    refine lv_aload_n hx hb dX1_tellsCount_113 rfl (lv_at hl 1 rfl) ?_
    refine va_get (D := G) (ci := 1) (v := .int (J 27)) (C := RX1) (T := TX1) (N := 33) hx hb hts in_X1 hown hK hP 0 rfl rfl 27 (Nat.le_of_ble_eq_true rfl) (hts _ q913) (fun _ h9 => h9) rfl dX1_tellsCount_114 ?_
    refine y_top (y := nI mn) h27 ?_
    exact W.iret (v := nI mn) hx hb hr (fun t ht hW => ⟨nI mn, rfl, by rw [countV, if_neg (by decide), if_neg (by decide), if_neg (by decide), if_neg (by decide), if_pos (by decide)], ht⟩) (fun q h => by cases h) dX1_tellsCount_117
  · refine lv_tableOut (tgt := 118) hx hb dX1_tellsCount_3 (by decide +kernel) (by decide) ?_
    refine lv_aload_n hx hb dX1_tellsCount_118 rfl (lv_at hl 1 rfl) ?_
    refine va_get (D := G) (ci := 1) (v := .int (J 11)) (C := RX1) (T := TX1) (N := 33) hx hb hts in_X1 hown hK hP 0 rfl rfl 11 (Nat.le_of_ble_eq_true rfl) (hts _ q897) (fun _ h9 => h9) rfl dX1_tellsCount_119 ?_
    refine y_top (y := nI en) h11 ?_
    exact W.iret (v := nI en) hx hb hr (fun t ht hW => ⟨nI en, rfl, by rw [countV, if_neg (by decide), if_neg (by decide), if_neg (by decide), if_neg (by decide), if_neg (by decide)], ht⟩) (fun q h => by cases h) dX1_tellsCount_122
set_option maxHeartbeats 400000 in
set_option maxRecDepth 100000 in
theorem metX1_count (l : Launch) (G : va_G) (d : Nat → Nat) (b : Nat → Nat) (J : Nat → Int32) (E : Nat → Nat → Int32) (rn pn mn en : Nat) (w : Int32) (h6 : J 6 = nI rn) (h13 : J 13 = nI pn) (h27 : J 27 = nI mn) (h11 : J 11 = nI en) (hp16 : pn ≤ 16) : Met l yX1_count (ws_ yX1_count cX1_count 2 (some FieldType.int)) ({ frames := 1, cells := 0, slots := 0, locals := 23 } : Room) (va_Pc [.ref (b 0), .int w] (pR G d (MW b J E d))) (vp_Si (fun x => x = countOp (E 3) (E 21) rn pn mn en w)) 0 0 (fun _ => False) := by
  refine Met.ofW (cc := cX1_count) (maxL := 2) (ret := (some FieldType.int)) (by decide) rfl ?_
  intro p e s m args below meth c s₁ B hml hv
  obtain ⟨rfl, hP, hK⟩ := hv
  have hx := B.exec
  have hb := B.bytes
  have hr := B.returns
  have hts := atoms_spec (ws := (ws_ yX1_count cX1_count 2 (some FieldType.int))) B.pre
  have hts : ∀ w ∈ lw_all, w.before _ s = true := fun w h => hts w (List.mem_cons_of_mem _ h)
  have hown : s.vm.findClass RX1 = some m.cls := findClass_of_methodNamed B.named
  have hlocks := B.notSynchronized
  have hl := lv_entry ([.ref (b 0), .int w]) (n := 2) (Nat.le_of_ble_eq_true rfl)
  rw [lg_entry_eq]
  generalize (lg_sl ([.ref (b 0), .int w]) ++ List.replicate (2 - (lg_sl ([.ref (b 0), .int w])).length) Slot.unset).toArray = ls at hl ⊢
  have hl : lv_has ls 2 [(0, .ref (b 0)), (1, .int w)] := hl
  refine lv_iload_n hx hb dX1_count_0 rfl (lv_at hl 1 rfl) ?_
  refine lv_iconst (v := 0) hx hb dX1_count_1 (by decide) ?_
  refine lv_iconst (v := 5) hx hb dX1_count_2 (by decide) ?_
  refine y_rS (As := [.int w, .int 0, .int 5]) (rest := []) ⟨hx, hb, hml, hown, hts⟩ hK (ws := []) (fun _ _ h => by cases h) (metX1_in l G d w 0 5) (va_cwS 3 hts (lw_S q994 q995 q39 q996) rfl rfl rfl (by decide +kernel) ⟨Nat.le_of_ble_eq_true rfl, Nat.le_of_ble_eq_true rfl⟩) rfl hl.1 rfl (lv_room (Nat.le_of_ble_eq_true rfl)) dX1_count_3 ⟨Nat.le_of_ble_eq_true rfl, Nat.le_of_ble_eq_true rfl⟩ (fun r_1 hr_2 => ?_)
  refine lv_if_eq (tgt := 17) hx hb dX1_count_6 (by decide) (fun c_3 => ?_) (fun c_3 => ?_)
  · have c_3 := bI_eq hr_2 c_3
    refine lv_iconst (v := (-1)) hx hb dX1_count_17 (by decide) ?_
    exact W.iret (v := (-1)) hx hb hr (fun t ht hW => ⟨(-1), rfl, (if_neg c_3).symm, ht⟩) (fun q h => by cases h) dX1_count_18
  · have c_3 := bI_ne hr_2 c_3
    obtain ⟨q, hq, rfl⟩ := inR_n (n := 5) (by decide) c_3
    refine lv_aload_n hx hb dX1_count_9 rfl (lv_at hl 0 rfl) ?_
    refine lv_iload_n hx hb dX1_count_10 rfl (lv_at hl 1 rfl) ?_
    refine y_rV (As := [.int (nI q)]) (rest := []) (ci := 1) (q0 := 0) ⟨hx, hb, hml, hown, hts⟩ hK hP (metX1_tellsCount l G d b J E rn pn mn en q h6 h13 h27 h11 hp16 (by omega)) (cwV 1 hts (lw_V q1181 q1183 qs33 q39 q1184) rfl rfl rfl (by decide +kernel) ⟨Nat.le_of_ble_eq_true rfl, Nat.le_of_ble_eq_true rfl⟩) rfl rfl rfl hl.1 rfl (lv_room (Nat.le_of_ble_eq_true rfl)) dX1_count_11 ⟨Nat.le_of_ble_eq_true rfl, Nat.le_of_ble_eq_true rfl⟩ (fun r_4 hw_5 => ?_)
    rw [hw_5]
    refine lv_goto (tgt := 18) hx hb dX1_count_14 (by decide) ?_
    exact W.iret (v := countV (E 3) (E 21) rn pn mn en (nI q)) hx hb hr (fun t ht hW => ⟨countV (E 3) (E 21) rn pn mn en (nI q), rfl, (if_pos c_3).symm, ht⟩) (fun q h => by cases h) dX1_count_18
