theorem if_iff {p q : Prop} [Decidable p] [Decidable q] {α : Type} {x y : α} (h : p ↔ q) : (if p then x else y) = if q then x else y := by
  by_cases w : p
  · rw [if_pos w, if_pos (h.mp w)]
  · rw [if_neg w, if_neg (fun z => w (h.mpr z))]
theorem or4 : ∀ x ∈ [(0 : Int32), 1], ∀ y ∈ [(0 : Int32), 2], ∀ z ∈ [(0 : Int32), 4], ∀ w ∈ [(0 : Int32), 8], ((x ||| y) ||| z) ||| w = x + y + z + w := by decide
theorem or2 {p : Prop} [Decidable p] {a c : Int32} : (if p then a else c) ∈ [c, a] := by
  split <;> simp
theorem nI_is {x : Int32} {k c : Nat} (h : x = nI k) (hk : k < 5) (hc : c < 5) : x = nI c ↔ k = c := by
  rw [h]
  exact nI_eq (by omega) (by omega)
theorem bars_or {P : Nat → Nat → Int32} {q z k j : Nat} (h1 : P 0 q = nI k) (h2 : P 0 z = nI j) (hk : k < 5) (hj : j < 5) {x1 x2 x3 x4 : Int32} (e1 : x1 = if P 5 q = P 4 z then 0 else 1) (e2 : x2 = if ¬ P 7 q = 0 ∨ ¬ P 7 z = 0 then 2 else 0) (e3 : x3 = if k = 3 ∨ j = 1 then 4 else 0) (e4 : x4 = if k = 2 ∧ j = 2 then 8 else 0) : ((x1 ||| x2) ||| x3) ||| x4 = barsV P q z := by
  have g3 : x3 = if P 0 q = 3 ∨ P 0 z = 1 then 4 else 0 := by
    rw [e3]
    have a := nI_is h1 hk (c := 3) (by decide)
    have b := nI_is h2 hj (c := 1) (by decide)
    exact if_iff (or_congr a.symm b.symm)
  have g4 : x4 = if P 0 q = 2 ∧ P 0 z = 2 then 8 else 0 := by
    rw [e4]
    have a := nI_is h1 hk (c := 2) (by decide)
    have b := nI_is h2 hj (c := 2) (by decide)
    exact if_iff (and_congr a.symm b.symm)
  rw [or4 x1 (by rw [e1]; split <;> simp) x2 (by rw [e2]; exact or2) x3 (by rw [e3]; exact or2) x4 (by rw [e4]; exact or2), e1, e2, g3, g4]
  rfl
/-- a part is recalled -/
def xRecall (S : Nat → Nat → Option Nat) (P : Nat → Nat → Int32) (fp : Nat → va_E) (a0 n : Nat) (v w : Int32) (r : Int32) (u : Nat → va_E) : Prop :=
  (¬ inR v 0 (nI n - 1) ∧ r = -1 ∧ u = fp) ∨ (inR v 0 (nI n - 1) ∧ r = bI (¬ P 7 (cl v) = 0) ∧ ∃ y k, S 11 (cl v) = some y ∧ u = va_up fp y (partE a0 (va_up P 7 (upd (P 7) (cl v) w)) (cl v) k))
set_option maxHeartbeats 400000 in
set_option maxRecDepth 100000 in
theorem metX0_toldOf (l : Launch) (G : va_G) (d : Nat → Nat) (X9 : va_W) (LP : List Nat) (fp : Nat → va_E) (y a0 q k : Nat) (P : Nat → Nat → Int32) (w : Nat) (hy : y ∈ LP) (hk5 : k < 5) (hf : fp y = partE a0 P q k) (h0 : P 0 q = nI k) (h7 : P 7 q = 0 ∨ P 7 q = 1) (hw7 : w < 7) : Met l yX0_toldOf (ws_ yX0_toldOf cX0_toldOf 2 (some FieldType.int)) ({ frames := 2, cells := 0, slots := 0, locals := 40 } : Room) (va_Pc [.ref y, .int (nI w)] (pR G d (X9 ++ va_pl LP fp))) (vp_Si (fun x => x = toldV P q w)) 0 0 (fun _ => False) := by
  refine Met.ofW (cc := cX0_toldOf) (maxL := 2) (ret := (some FieldType.int)) (by decide) rfl ?_
  intro p e s m args below meth c s₁ B hml hv
  obtain ⟨rfl, hP, hK⟩ := hv
  have hx := B.exec
  have hb := B.bytes
  have hr := B.returns
  have hts := atoms_spec (ws := (ws_ yX0_toldOf cX0_toldOf 2 (some FieldType.int))) B.pre
  have hts : ∀ w ∈ lw_all, w.before _ s = true := fun w h => hts w (List.mem_cons_of_mem _ h)
  have hown : s.vm.findClass RX0 = some m.cls := findClass_of_methodNamed B.named
  have hlocks := B.notSynchronized
  have hl := lv_entry ([.ref y, .int (nI w)]) (n := 2) (Nat.le_of_ble_eq_true rfl)
  rw [lg_entry_eq]
  generalize (lg_sl ([.ref y, .int (nI w)]) ++ List.replicate (2 - (lg_sl ([.ref y, .int (nI w)])).length) Slot.unset).toArray = ls at hl ⊢
  have hl : lv_has ls 2 [(0, .ref y), (1, .int (nI w))] := hl
  refine lv_iload_n hx hb dX0_toldOf_0 rfl (lv_at hl 1 rfl) ?_
  have hcs : w = 0 ∨ w = 1 ∨ w = 2 ∨ w = 3 ∨ w = 4 ∨ w = 5 ∨ w = 6 := by omega
  rcases hcs with rfl | rfl | rfl | rfl | rfl | rfl | rfl
  · refine lv_tableIn (off := 39) (tgt := 40) hx hb dX0_toldOf_1 (by decide +kernel) (by decide +kernel) (by decide +kernel) (by decide) ?_
    refine lv_aload_n hx hb dX0_toldOf_40 rfl (lv_at hl 0 rfl) ?_
    refine y_kind (a0 := a0) (q := q) (k := k) (P := P) ⟨hx, hb, hml, hown, hts⟩ hK hP hy hk5 hf q563 hl.1 (lv_room (Nat.le_of_ble_eq_true rfl)) dX0_toldOf_41 ⟨Nat.le_of_ble_eq_true rfl, Nat.le_of_ble_eq_true rfl⟩ (Nat.le_of_ble_eq_true rfl) (Nat.le_of_ble_eq_true rfl) ?_
    exact W.iret (v := nI k) hx hb hr (fun t ht hW => ⟨nI k, rfl, h0.symm, ht⟩) (fun q h => by cases h) dX0_toldOf_44
  · refine lv_tableIn (off := 44) (tgt := 45) hx hb dX0_toldOf_1 (by decide +kernel) (by decide +kernel) (by decide +kernel) (by decide) ?_
    refine lv_aload_n hx hb dX0_toldOf_45 rfl (lv_at hl 0 rfl) ?_
    refine y_getPt (a0 := a0) (q := q) (k := k) (P := P) (v := .int (P 1 q)) hx hb hts hown hK hP hy hk5 hf 1 (Nat.le_of_ble_eq_true rfl) (hts _ q444) rfl dX0_toldOf_46 ?_
    exact W.iret (v := P 1 q) hx hb hr (fun t ht hW => ⟨P 1 q, rfl, rfl, ht⟩) (fun q h => by cases h) dX0_toldOf_49
  · refine lv_tableIn (off := 49) (tgt := 50) hx hb dX0_toldOf_1 (by decide +kernel) (by decide +kernel) (by decide +kernel) (by decide) ?_
    refine lv_aload_n hx hb dX0_toldOf_50 rfl (lv_at hl 0 rfl) ?_
    refine y_getPt (a0 := a0) (q := q) (k := k) (P := P) (v := .int (P 2 q)) hx hb hts hown hK hP hy hk5 hf 2 (Nat.le_of_ble_eq_true rfl) (hts _ q446) rfl dX0_toldOf_51 ?_
    exact W.iret (v := P 2 q) hx hb hr (fun t ht hW => ⟨P 2 q, rfl, rfl, ht⟩) (fun q h => by cases h) dX0_toldOf_54
  · refine lv_tableIn (off := 54) (tgt := 55) hx hb dX0_toldOf_1 (by decide +kernel) (by decide +kernel) (by decide +kernel) (by decide) ?_
    refine lv_aload_n hx hb dX0_toldOf_55 rfl (lv_at hl 0 rfl) ?_
    refine y_getPt (a0 := a0) (q := q) (k := k) (P := P) (v := .int (P 3 q)) hx hb hts hown hK hP hy hk5 hf 3 (Nat.le_of_ble_eq_true rfl) (hts _ q450) rfl dX0_toldOf_56 ?_
    exact W.iret (v := P 3 q) hx hb hr (fun t ht hW => ⟨P 3 q, rfl, rfl, ht⟩) (fun q h => by cases h) dX0_toldOf_59
  · refine lv_tableIn (off := 59) (tgt := 60) hx hb dX0_toldOf_1 (by decide +kernel) (by decide +kernel) (by decide +kernel) (by decide) ?_
    refine lv_aload_n hx hb dX0_toldOf_60 rfl (lv_at hl 0 rfl) ?_
    refine y_getPt (a0 := a0) (q := q) (k := k) (P := P) (v := .int (P 4 q)) hx hb hts hown hK hP hy hk5 hf 4 (Nat.le_of_ble_eq_true rfl) (hts _ q455) rfl dX0_toldOf_61 ?_
    exact W.iret (v := P 4 q) hx hb hr (fun t ht hW => ⟨P 4 q, rfl, rfl, ht⟩) (fun q h => by cases h) dX0_toldOf_64
  · refine lv_tableIn (off := 64) (tgt := 65) hx hb dX0_toldOf_1 (by decide +kernel) (by decide +kernel) (by decide +kernel) (by decide) ?_
    refine lv_aload_n hx hb dX0_toldOf_65 rfl (lv_at hl 0 rfl) ?_
    refine y_getPt (a0 := a0) (q := q) (k := k) (P := P) (v := .int (P 5 q)) hx hb hts hown hK hP hy hk5 hf 5 (Nat.le_of_ble_eq_true rfl) (hts _ q460) rfl dX0_toldOf_66 ?_
    exact W.iret (v := P 5 q) hx hb hr (fun t ht hW => ⟨P 5 q, rfl, rfl, ht⟩) (fun q h => by cases h) dX0_toldOf_69
  · refine lv_tableOut (tgt := 70) hx hb dX0_toldOf_1 (by decide +kernel) (by decide) ?_
    refine lv_aload_n hx hb dX0_toldOf_70 rfl (lv_at hl 0 rfl) ?_
    refine y_getPt (a0 := a0) (q := q) (k := k) (P := P) (v := .int (P 7 q)) hx hb hts hown hK hP hy hk5 hf 6 (Nat.le_of_ble_eq_true rfl) (hts _ q463) rfl dX0_toldOf_71 ?_
    refine lv_if_eq (tgt := 81) hx hb dX0_toldOf_74 (by decide) (fun c_1 => ?_) (fun c_1 => ?_)
    · refine lv_iconst (v := 0) hx hb dX0_toldOf_81 (by decide) ?_
      exact W.iret (v := 0) hx hb hr (fun t ht hW => ⟨0, rfl, (bI_f (not_not_intro c_1)).symm, ht⟩) (fun q h => by cases h) dX0_toldOf_82
    · refine lv_iconst (v := 1) hx hb dX0_toldOf_77 (by decide) ?_
      refine lv_goto (tgt := 82) hx hb dX0_toldOf_78 (by decide) ?_
      exact W.iret (v := 1) hx hb hr (fun t ht hW => ⟨1, rfl, (bI_t c_1).symm, ht⟩) (fun q h => by cases h) dX0_toldOf_82
set_option maxHeartbeats 400000 in
set_option maxRecDepth 100000 in
theorem metX0_told (l : Launch) (G : va_G) (d : Nat → Nat) (a : Nat → Nat) (I : Nat → Int32) (F : Nat → Nat → Int32) (S : Nat → Nat → Option Nat) (lm : Int32 × Nat × Int32) (LP : List Nat) (fp : Nat → va_E) (P : Nat → Nat → Int32) (n : Nat) (v w : Int32) (hn16 : n ≤ 16) (hn : I 12 = nI n) (hpt : partsIn S P LP fp (a 0) n) : Met l yX0_told (ws_ yX0_told cX0_told 3 (some FieldType.int)) ({ frames := 3, cells := 0, slots := 0, locals := 61 } : Room) (va_Pc [.ref (a 0), .int v, .int w] (pR G d (XW a I F S lm LP fp d))) (vp_Si (fun x => x = toldOp P n v w)) 0 0 (fun _ => False) := by
  refine Met.ofW (cc := cX0_told) (maxL := 3) (ret := (some FieldType.int)) (by decide) rfl ?_
  intro p e s m args below meth c s₁ B hml hv
  obtain ⟨rfl, hP, hK⟩ := hv
  have hx := B.exec
  have hb := B.bytes
  have hr := B.returns
  have hts := atoms_spec (ws := (ws_ yX0_told cX0_told 3 (some FieldType.int))) B.pre
  have hts : ∀ w ∈ lw_all, w.before _ s = true := fun w h => hts w (List.mem_cons_of_mem _ h)
  have hown : s.vm.findClass RX0 = some m.cls := findClass_of_methodNamed B.named
  have hlocks := B.notSynchronized
  have hl := lv_entry ([.ref (a 0), .int v, .int w]) (n := 3) (Nat.le_of_ble_eq_true rfl)
  rw [lg_entry_eq]
  generalize (lg_sl ([.ref (a 0), .int v, .int w]) ++ List.replicate (3 - (lg_sl ([.ref (a 0), .int v, .int w])).length) Slot.unset).toArray = ls at hl ⊢
  have hl : lv_has ls 3 [(0, .ref (a 0)), (1, .int v), (2, .int w)] := hl
  refine lv_aload_n hx hb dX0_told_0 rfl (lv_at hl 0 rfl) ?_
  refine lv_iload_n hx hb dX0_told_1 rfl (lv_at hl 1 rfl) ?_
  refine y_rV (As := [.int v]) (rest := []) (ci := 0) (q0 := 0) ⟨hx, hb, hml, hown, hts⟩ hK hP (metX0_isPart l G d a I F S lm LP fp n v hn16 hn) (cwV 1 hts (lw_V q556 q558 qs5 q35 q559) rfl rfl rfl (by decide +kernel) ⟨Nat.le_of_ble_eq_true rfl, Nat.le_of_ble_eq_true rfl⟩) rfl rfl rfl hl.1 rfl (lv_room (Nat.le_of_ble_eq_true rfl)) dX0_told_2 ⟨Nat.le_of_ble_eq_true rfl, Nat.le_of_ble_eq_true rfl⟩ (fun r_1 hw_2 => ?_)
  refine lv_if_eq (tgt := 31) hx hb dX0_told_5 (by decide) (fun c_3 => ?_) (fun c_3 => ?_)
  · have c_3 := bI_eq hw_2 c_3
    refine lv_iconst (v := (-1)) hx hb dX0_told_31 (by decide) ?_
    exact W.iret (v := (-1)) hx hb hr (fun t ht hW => ⟨(-1), rfl, (if_neg (fun h => c_3 (h.1))).symm, ht⟩) (fun q h => by cases h) dX0_told_32
  · have c_3 := bI_ne hw_2 c_3
    refine lv_iload_n hx hb dX0_told_8 rfl (lv_at hl 2 rfl) ?_
    refine lv_iconst (v := 0) hx hb dX0_told_9 (by decide) ?_
    refine lv_bipush (v := 6) hx hb dX0_told_10 (by decide +kernel) ?_
    refine y_rS (As := [.int w, .int 0, .int 6]) (rest := []) ⟨hx, hb, hml, hown, hts⟩ hK (ws := []) (fun _ _ h => by cases h) (metX0_in l G d w 0 6) (va_cwS 3 hts (lw_S q204 q205 q35 q206) rfl rfl rfl (by decide +kernel) ⟨Nat.le_of_ble_eq_true rfl, Nat.le_of_ble_eq_true rfl⟩) rfl hl.1 rfl (lv_room (Nat.le_of_ble_eq_true rfl)) dX0_told_12 ⟨Nat.le_of_ble_eq_true rfl, Nat.le_of_ble_eq_true rfl⟩ (fun r_4 hr_5 => ?_)
    refine lv_if_eq (tgt := 31) hx hb dX0_told_15 (by decide) (fun c_6 => ?_) (fun c_6 => ?_)
    · have c_6 := bI_eq hr_5 c_6
      refine lv_iconst (v := (-1)) hx hb dX0_told_31 (by decide) ?_
      exact W.iret (v := (-1)) hx hb hr (fun t ht hW => ⟨(-1), rfl, (if_neg (fun h => c_6 (h.2))).symm, ht⟩) (fun q h => by cases h) dX0_told_32
    · have c_6 := bI_ne hr_5 c_6
      obtain ⟨q, hq, rfl⟩ := inR_p (n := n) (by omega) c_3
      obtain ⟨z, hz, rfl⟩ := inR_n (n := 6) (by decide) c_6
      refine lv_aload_n hx hb dX0_told_18 rfl (lv_at hl 0 rfl) ?_
      refine va_get (D := G) (ci := 0) (v := .ref (a 11)) (C := RX0) (T := TX0) (N := 29) hx hb hts in_X0 hown hK hP 0 rfl rfl 11 (Nat.le_of_ble_eq_true rfl) (hts _ q118) (fun _ h9 => h9) rfl dX0_told_19 ?_
      refine lv_iload_n hx hb dX0_told_22 rfl (lv_at hl 1 rfl) ?_
      obtain ⟨yz_7, kz_7, hSz_7, hyz_7, hkz_7, hk0z_7, h7z_7, hfz_7⟩ := hpt q (by omega)
      refine y_aldq (N := q) (f := S 11) hx hb hK hP 8 3 rfl rfl rfl (by omega) (by decide) dX0_told_23 ?_
      refine y_topv (y := .ref yz_7) (by rw [hSz_7]; rfl) ?_
      refine lv_iload_n hx hb dX0_told_24 rfl (lv_at hl 2 rfl) ?_
      refine y_rS (As := [.ref yz_7, .int (nI z)]) (rest := []) ⟨hx, hb, hml, hown, hts⟩ hK hP (metX0_toldOf l G d _ LP fp yz_7 (a 0) q kz_7 P z hyz_7 hkz_7 hfz_7 hk0z_7.symm.symm h7z_7 (by omega)) (va_cwS 2 hts (lw_S q560 q561 q35 q562) rfl rfl rfl (by decide +kernel) ⟨Nat.le_of_ble_eq_true rfl, Nat.le_of_ble_eq_true rfl⟩) rfl hl.1 rfl (lv_room (Nat.le_of_ble_eq_true rfl)) dX0_told_25 ⟨Nat.le_of_ble_eq_true rfl, Nat.le_of_ble_eq_true rfl⟩ (fun r_8 hr_9 => ?_)
      rw [hr_9]
      refine lv_goto (tgt := 32) hx hb dX0_told_28 (by decide) ?_
      exact W.iret (v := toldV P q z) hx hb hr (fun t ht hW => ⟨toldV P q z, rfl, by unfold toldOp; rw [if_pos ⟨c_3, c_6⟩, cl_nI (show q < 2 ^ 31 by omega), cl_nI (show z < 2 ^ 31 by omega)], ht⟩) (fun q h => by cases h) dX0_told_32
set_option maxHeartbeats 400000 in
set_option maxRecDepth 100000 in
theorem metX0_unfit (l : Launch) (G : va_G) (d : Nat → Nat) (a : Nat → Nat) (I : Nat → Int32) (F : Nat → Nat → Int32) (S : Nat → Nat → Option Nat) (lm : Int32 × Nat × Int32) (LP : List Nat) (fp : Nat → va_E) (P : Nat → Nat → Int32) (n : Nat) (v w : Int32) (hn16 : n ≤ 16) (hn : I 12 = nI n) (hpt : partsIn S P LP fp (a 0) n) : Met l yX0_unfit (ws_ yX0_unfit cX0_unfit 6 (some FieldType.int)) ({ frames := 2, cells := 0, slots := 0, locals := 43 } : Room) (va_Pc [.ref (a 0), .int v, .int w] (pR G d (XW a I F S lm LP fp d))) (vp_Si (fun x => x = unfitOp P n v w)) 0 0 (fun _ => False) := by
  refine Met.ofW (cc := cX0_unfit) (maxL := 6) (ret := (some FieldType.int)) (by decide) rfl ?_
  intro p e s m args below meth c s₁ B hml hv
  obtain ⟨rfl, hP, hK⟩ := hv
  have hx := B.exec
  have hb := B.bytes
  have hr := B.returns
  have hts := atoms_spec (ws := (ws_ yX0_unfit cX0_unfit 6 (some FieldType.int))) B.pre
  have hts : ∀ w ∈ lw_all, w.before _ s = true := fun w h => hts w (List.mem_cons_of_mem _ h)
  have hown : s.vm.findClass RX0 = some m.cls := findClass_of_methodNamed B.named
  have hlocks := B.notSynchronized
  have hl := lv_entry ([.ref (a 0), .int v, .int w]) (n := 6) (Nat.le_of_ble_eq_true rfl)
  rw [lg_entry_eq]
  generalize (lg_sl ([.ref (a 0), .int v, .int w]) ++ List.replicate (6 - (lg_sl ([.ref (a 0), .int v, .int w])).length) Slot.unset).toArray = ls at hl ⊢
  have hl : lv_has ls 6 [(0, .ref (a 0)), (1, .int v), (2, .int w)] := hl
  refine lv_aload_n hx hb dX0_unfit_0 rfl (lv_at hl 0 rfl) ?_
  refine lv_iload_n hx hb dX0_unfit_1 rfl (lv_at hl 1 rfl) ?_
  refine y_rV (As := [.int v]) (rest := []) (ci := 0) (q0 := 0) ⟨hx, hb, hml, hown, hts⟩ hK hP (metX0_isPart l G d a I F S lm LP fp n v hn16 hn) (cwV 1 hts (lw_V q556 q558 qs5 q35 q559) rfl rfl rfl (by decide +kernel) ⟨Nat.le_of_ble_eq_true rfl, Nat.le_of_ble_eq_true rfl⟩) rfl rfl rfl hl.1 rfl (lv_room (Nat.le_of_ble_eq_true rfl)) dX0_unfit_2 ⟨Nat.le_of_ble_eq_true rfl, Nat.le_of_ble_eq_true rfl⟩ (fun r_1 hw_2 => ?_)
  refine lv_if_eq (tgt := 21) hx hb dX0_unfit_5 (by decide) (fun c_3 => ?_) (fun c_3 => ?_)
  · have c_3 := bI_eq hw_2 c_3
    refine lv_iconst (v := (-1)) hx hb dX0_unfit_21 (by decide) ?_
    exact W.iret (v := (-1)) hx hb hr (fun t ht hW => ⟨(-1), rfl, (if_neg (fun h => c_3 h.1)).symm, ht⟩) (fun q h => by cases h) dX0_unfit_22
  · have c_3 := bI_ne hw_2 c_3
    refine lv_aload_n hx hb dX0_unfit_8 rfl (lv_at hl 0 rfl) ?_
    refine lv_iload_n hx hb dX0_unfit_9 rfl (lv_at hl 2 rfl) ?_
    refine y_rV (As := [.int w]) (rest := []) (ci := 0) (q0 := 0) ⟨hx, hb, hml, hown, hts⟩ hK hP (metX0_isPart l G d a I F S lm LP fp n w hn16 hn) (cwV 1 hts (lw_V q556 q558 qs5 q35 q559) rfl rfl rfl (by decide +kernel) ⟨Nat.le_of_ble_eq_true rfl, Nat.le_of_ble_eq_true rfl⟩) rfl rfl rfl hl.1 rfl (lv_room (Nat.le_of_ble_eq_true rfl)) dX0_unfit_10 ⟨Nat.le_of_ble_eq_true rfl, Nat.le_of_ble_eq_true rfl⟩ (fun r_4 hw_5 => ?_)
    refine lv_if_eq (tgt := 21) hx hb dX0_unfit_13 (by decide) (fun c_6 => ?_) (fun c_6 => ?_)
    · have c_6 := bI_eq hw_5 c_6
      refine lv_iconst (v := (-1)) hx hb dX0_unfit_21 (by decide) ?_
      exact W.iret (v := (-1)) hx hb hr (fun t ht hW => ⟨(-1), rfl, (if_neg (fun h => c_6 h.2.1)).symm, ht⟩) (fun q h => by cases h) dX0_unfit_22
    · have c_6 := bI_ne hw_5 c_6
      refine lv_iload_n hx hb dX0_unfit_16 rfl (lv_at hl 1 rfl) ?_
      refine lv_iload_n hx hb dX0_unfit_17 rfl (lv_at hl 2 rfl) ?_
      refine lv_icmp_ne (tgt := 23) hx hb dX0_unfit_18 (by decide) (fun c_7 => ?_) (fun c_7 => ?_)
      · obtain ⟨q, hq, rfl⟩ := inR_p (n := n) (by omega) c_3
        obtain ⟨z, hz, rfl⟩ := inR_p (n := n) (by omega) c_6
        obtain ⟨yz_8, kz_8, hSz_8, hyz_8, hkz_8, hk0z_8, h7z_8, hfz_8⟩ := hpt q (by omega)
        obtain ⟨yz_9, kz_9, hSz_9, hyz_9, hkz_9, hk0z_9, h7z_9, hfz_9⟩ := hpt z (by omega)
        refine lv_aload_n hx hb dX0_unfit_23 rfl (lv_at hl 0 rfl) ?_
        refine va_get (D := G) (ci := 0) (v := .ref (a 11)) (C := RX0) (T := TX0) (N := 29) hx hb hts in_X0 hown hK hP 0 rfl rfl 11 (Nat.le_of_ble_eq_true rfl) (hts _ q118) (fun _ h9 => h9) rfl dX0_unfit_24 ?_
        refine lv_iload_n hx hb dX0_unfit_27 rfl (lv_at hl 1 rfl) ?_
        refine y_aldq (N := q) (f := S 11) hx hb hK hP 8 3 rfl rfl rfl (by omega) (by decide) dX0_unfit_28 ?_
        refine y_topv (y := .ref yz_8) (by rw [hSz_8]; rfl) ?_
        refine lv_astore_n (lv' := [(3, .ref yz_8), (0, .ref (a 0)), (1, .int (nI q)), (2, .int (nI z))]) hx hb dX0_unfit_29 rfl hl (Nat.le_of_ble_eq_true rfl) rfl (fun ls hl => ?_)
        refine lv_aload_n hx hb dX0_unfit_30 rfl (lv_at hl 1 rfl) ?_
        refine va_get (D := G) (ci := 0) (v := .ref (a 11)) (C := RX0) (T := TX0) (N := 29) hx hb hts in_X0 hown hK hP 0 rfl rfl 11 (Nat.le_of_ble_eq_true rfl) (hts _ q118) (fun _ h9 => h9) rfl dX0_unfit_31 ?_
        refine lv_iload_n hx hb dX0_unfit_34 rfl (lv_at hl 3 rfl) ?_
        refine y_aldq (N := z) (f := S 11) hx hb hK hP 8 3 rfl rfl rfl (by omega) (by decide) dX0_unfit_35 ?_
        refine y_topv (y := .ref yz_9) (by rw [hSz_9]; rfl) ?_
        refine lv_astore (lv' := [(4, .ref yz_9), (3, .ref yz_8), (0, .ref (a 0)), (1, .int (nI q)), (2, .int (nI z))]) hx hb dX0_unfit_36 hl (Nat.le_of_ble_eq_true rfl) rfl (fun ls hl => ?_)
        have hj_10 : ∀ (x1 : Int32) (hx1 : x1 = if P 5 q = P 4 z then 0 else 1), W p l e (headSpec (ws_ yX0_unfit cX0_unfit 6 (some FieldType.int)) ({ frames := 2, cells := 0, slots := 0, locals := 43 } : Room)).room s m ([.ref (a 0), .int (nI q), .int (nI z)] : List Value).toArray below meth c s.heap [] 0 0 (MQ below (vp_Si (fun x => x = unfitOp P n (nI q) (nI z))) ([.ref (a 0), .int (nI q), .int (nI z)] : List Value).toArray s 0 0 (fun _ => False)) (F0 m 55 ls [.int x1]) := by
          intro x1 hx1
          refine lv_istore (lv' := [(5, .int x1), (4, .ref yz_9), (3, .ref yz_8), (0, .ref (a 0)), (1, .int (nI q)), (2, .int (nI z))]) hx hb dX0_unfit_55 hl (Nat.le_of_ble_eq_true rfl) rfl (fun ls hl => ?_)
          refine lv_iload hx hb dX0_unfit_57 (lv_at hl 0 rfl) ?_
          have hj_11 : ∀ (x2 : Int32) (hx2 : x2 = if ¬ P 7 q = 0 ∨ ¬ P 7 z = 0 then 2 else 0), W p l e (headSpec (ws_ yX0_unfit cX0_unfit 6 (some FieldType.int)) ({ frames := 2, cells := 0, slots := 0, locals := 43 } : Room)).room s m ([.ref (a 0), .int (nI q), .int (nI z)] : List Value).toArray below meth c s.heap [] 0 0 (MQ below (vp_Si (fun x => x = unfitOp P n (nI q) (nI z))) ([.ref (a 0), .int (nI q), .int (nI z)] : List Value).toArray s 0 0 (fun _ => False)) (F0 m 79 ls [.int x2, .int x1]) := by
            intro x2 hx2
            refine lv_ior hx hb dX0_unfit_79 ?_
            refine lv_istore (lv' := [(5, .int (x1 ||| x2)), (4, .ref yz_9), (3, .ref yz_8), (0, .ref (a 0)), (1, .int (nI q)), (2, .int (nI z))]) hx hb dX0_unfit_80 hl (Nat.le_of_ble_eq_true rfl) rfl (fun ls hl => ?_)
            refine lv_iload hx hb dX0_unfit_82 (lv_at hl 0 rfl) ?_
            have hj_12 : ∀ (x3 : Int32) (hx3 : x3 = if kz_8 = 3 ∨ kz_9 = 1 then 4 else 0), W p l e (headSpec (ws_ yX0_unfit cX0_unfit 6 (some FieldType.int)) ({ frames := 2, cells := 0, slots := 0, locals := 43 } : Room)).room s m ([.ref (a 0), .int (nI q), .int (nI z)] : List Value).toArray below meth c s.heap [] 0 0 (MQ below (vp_Si (fun x => x = unfitOp P n (nI q) (nI z))) ([.ref (a 0), .int (nI q), .int (nI z)] : List Value).toArray s 0 0 (fun _ => False)) (F0 m 106 ls [.int x3, .int (x1 ||| x2)]) := by
              intro x3 hx3
              refine lv_ior hx hb dX0_unfit_106 ?_
              refine lv_istore (lv' := [(5, .int ((x1 ||| x2) ||| x3)), (4, .ref yz_9), (3, .ref yz_8), (0, .ref (a 0)), (1, .int (nI q)), (2, .int (nI z))]) hx hb dX0_unfit_107 hl (Nat.le_of_ble_eq_true rfl) rfl (fun ls hl => ?_)
              refine lv_iload hx hb dX0_unfit_109 (lv_at hl 0 rfl) ?_
              have hj_13 : ∀ (x4 : Int32) (hx4 : x4 = if kz_8 = 2 ∧ kz_9 = 2 then 8 else 0), W p l e (headSpec (ws_ yX0_unfit cX0_unfit 6 (some FieldType.int)) ({ frames := 2, cells := 0, slots := 0, locals := 43 } : Room)).room s m ([.ref (a 0), .int (nI q), .int (nI z)] : List Value).toArray below meth c s.heap [] 0 0 (MQ below (vp_Si (fun x => x = unfitOp P n (nI q) (nI z))) ([.ref (a 0), .int (nI q), .int (nI z)] : List Value).toArray s 0 0 (fun _ => False)) (F0 m 134 ls [.int x4, .int ((x1 ||| x2) ||| x3)]) := by
                intro x4 hx4
                refine lv_ior hx hb dX0_unfit_134 ?_
                exact W.iret (v := ((x1 ||| x2) ||| x3) ||| x4) hx hb hr (fun t ht hW => ⟨((x1 ||| x2) ||| x3) ||| x4, rfl, by unfold unfitOp; rw [if_pos ⟨c_3, c_6, c_7⟩, cl_nI (show q < 2 ^ 31 by omega), cl_nI (show z < 2 ^ 31 by omega), bars_or hk0z_8 hk0z_9 (by omega) (by omega) hx1 hx2 hx3 hx4], ht⟩) (fun q h => by cases h) dX0_unfit_135
              refine lv_aload_n hx hb dX0_unfit_111 rfl (lv_at hl 2 rfl) ?_
              refine y_kind (a0 := a 0) (q := q) (k := kz_8) (P := P) ⟨hx, hb, hml, hown, hts⟩ hK hP hyz_8 hkz_8 hfz_8 q563 hl.1 (lv_room (Nat.le_of_ble_eq_true rfl)) dX0_unfit_112 ⟨Nat.le_of_ble_eq_true rfl, Nat.le_of_ble_eq_true rfl⟩ (Nat.le_of_ble_eq_true rfl) (Nat.le_of_ble_eq_true rfl) ?_
              refine lv_iconst (v := 2) hx hb dX0_unfit_115 (by decide) ?_
              refine lv_icmp_ne (tgt := 133) hx hb dX0_unfit_116 (by decide) (fun c_14 => ?_) (fun c_14 => ?_)
              · have c_14 : ¬ kz_8 = 2 := fun h => c_14 ((nI_eq (a := kz_8) (b := 2) (by omega) (by omega)).mpr h)
                refine lv_iconst (v := 0) hx hb dX0_unfit_133 (by decide) ?_
                exact hj_13 0 (if_neg (fun h => c_14 h.1)).symm
              · have c_14 : kz_8 = 2 := (nI_eq (a := kz_8) (b := 2) (by omega) (by omega)).mp c_14
                refine lv_aload hx hb dX0_unfit_119 (lv_at hl 1 rfl) ?_
                refine y_kind (a0 := a 0) (q := z) (k := kz_9) (P := P) ⟨hx, hb, hml, hown, hts⟩ hK hP hyz_9 hkz_9 hfz_9 q563 hl.1 (lv_room (Nat.le_of_ble_eq_true rfl)) dX0_unfit_121 ⟨Nat.le_of_ble_eq_true rfl, Nat.le_of_ble_eq_true rfl⟩ (Nat.le_of_ble_eq_true rfl) (Nat.le_of_ble_eq_true rfl) ?_
                refine lv_iconst (v := 2) hx hb dX0_unfit_124 (by decide) ?_
                refine lv_icmp_ne (tgt := 133) hx hb dX0_unfit_125 (by decide) (fun c_15 => ?_) (fun c_15 => ?_)
                · have c_15 : ¬ kz_9 = 2 := fun h => c_15 ((nI_eq (a := kz_9) (b := 2) (by omega) (by omega)).mpr h)
                  refine lv_iconst (v := 0) hx hb dX0_unfit_133 (by decide) ?_
                  exact hj_13 0 (if_neg (fun h => c_15 h.2)).symm
                · have c_15 : kz_9 = 2 := (nI_eq (a := kz_9) (b := 2) (by omega) (by omega)).mp c_15
                  refine lv_bipush (v := 8) hx hb dX0_unfit_128 (by decide +kernel) ?_
                  refine lv_goto (tgt := 134) hx hb dX0_unfit_130 (by decide) ?_
                  exact hj_13 8 (if_pos ⟨c_14, c_15⟩).symm
            refine lv_aload_n hx hb dX0_unfit_84 rfl (lv_at hl 2 rfl) ?_
            refine y_kind (a0 := a 0) (q := q) (k := kz_8) (P := P) ⟨hx, hb, hml, hown, hts⟩ hK hP hyz_8 hkz_8 hfz_8 q563 hl.1 (lv_room (Nat.le_of_ble_eq_true rfl)) dX0_unfit_85 ⟨Nat.le_of_ble_eq_true rfl, Nat.le_of_ble_eq_true rfl⟩ (Nat.le_of_ble_eq_true rfl) (Nat.le_of_ble_eq_true rfl) ?_
            refine lv_iconst (v := 3) hx hb dX0_unfit_88 (by decide) ?_
            refine lv_icmp_eq (tgt := 101) hx hb dX0_unfit_89 (by decide) (fun c_16 => ?_) (fun c_16 => ?_)
            · have c_16 : kz_8 = 3 := (nI_eq (a := kz_8) (b := 3) (by omega) (by omega)).mp c_16
              refine lv_iconst (v := 4) hx hb dX0_unfit_101 (by decide) ?_
              refine lv_goto (tgt := 106) hx hb dX0_unfit_102 (by decide) ?_
              exact hj_12 4 (if_pos (Or.inl c_16)).symm
            · have c_16 : ¬ kz_8 = 3 := fun h => c_16 ((nI_eq (a := kz_8) (b := 3) (by omega) (by omega)).mpr h)
              refine lv_aload hx hb dX0_unfit_92 (lv_at hl 1 rfl) ?_
              refine y_kind (a0 := a 0) (q := z) (k := kz_9) (P := P) ⟨hx, hb, hml, hown, hts⟩ hK hP hyz_9 hkz_9 hfz_9 q563 hl.1 (lv_room (Nat.le_of_ble_eq_true rfl)) dX0_unfit_94 ⟨Nat.le_of_ble_eq_true rfl, Nat.le_of_ble_eq_true rfl⟩ (Nat.le_of_ble_eq_true rfl) (Nat.le_of_ble_eq_true rfl) ?_
              refine lv_iconst (v := 1) hx hb dX0_unfit_97 (by decide) ?_
              refine lv_icmp_ne (tgt := 105) hx hb dX0_unfit_98 (by decide) (fun c_17 => ?_) (fun c_17 => ?_)
              · have c_17 : ¬ kz_9 = 1 := fun h => c_17 ((nI_eq (a := kz_9) (b := 1) (by omega) (by omega)).mpr h)
                refine lv_iconst (v := 0) hx hb dX0_unfit_105 (by decide) ?_
                exact hj_12 0 (if_neg (fun h => h.elim c_16 c_17)).symm
              · have c_17 : kz_9 = 1 := (nI_eq (a := kz_9) (b := 1) (by omega) (by omega)).mp c_17
                refine lv_iconst (v := 4) hx hb dX0_unfit_101 (by decide) ?_
                refine lv_goto (tgt := 106) hx hb dX0_unfit_102 (by decide) ?_
                exact hj_12 4 (if_pos (Or.inr c_17)).symm
          refine lv_aload_n hx hb dX0_unfit_59 rfl (lv_at hl 2 rfl) ?_
          refine y_getPt (a0 := a 0) (q := q) (k := kz_8) (P := P) (v := .int (P 7 q)) hx hb hts hown hK hP hyz_8 hkz_8 hfz_8 6 (Nat.le_of_ble_eq_true rfl) (hts _ q463) rfl dX0_unfit_60 ?_
          refine lv_if_ne (tgt := 74) hx hb dX0_unfit_63 (by decide) (fun c_18 => ?_) (fun c_18 => ?_)
          · refine lv_iconst (v := 2) hx hb dX0_unfit_74 (by decide) ?_
            refine lv_goto (tgt := 79) hx hb dX0_unfit_75 (by decide) ?_
            exact hj_11 2 (if_pos (Or.inl c_18)).symm
          · refine lv_aload hx hb dX0_unfit_66 (lv_at hl 1 rfl) ?_
            refine y_getPt (a0 := a 0) (q := z) (k := kz_9) (P := P) (v := .int (P 7 z)) hx hb hts hown hK hP hyz_9 hkz_9 hfz_9 6 (Nat.le_of_ble_eq_true rfl) (hts _ q463) rfl dX0_unfit_68 ?_
            refine lv_if_eq (tgt := 78) hx hb dX0_unfit_71 (by decide) (fun c_19 => ?_) (fun c_19 => ?_)
            · refine lv_iconst (v := 0) hx hb dX0_unfit_78 (by decide) ?_
              exact hj_11 0 (if_neg (fun h => h.elim (fun h => h c_18) (fun h => h c_19))).symm
            · refine lv_iconst (v := 2) hx hb dX0_unfit_74 (by decide) ?_
              refine lv_goto (tgt := 79) hx hb dX0_unfit_75 (by decide) ?_
              exact hj_11 2 (if_pos (Or.inr c_19)).symm
        refine lv_aload_n hx hb dX0_unfit_38 rfl (lv_at hl 1 rfl) ?_
        refine y_getPt (a0 := a 0) (q := q) (k := kz_8) (P := P) (v := .int (P 5 q)) hx hb hts hown hK hP hyz_8 hkz_8 hfz_8 5 (Nat.le_of_ble_eq_true rfl) (hts _ q460) rfl dX0_unfit_39 ?_
        refine lv_aload hx hb dX0_unfit_42 (lv_at hl 0 rfl) ?_
        refine y_getPt (a0 := a 0) (q := z) (k := kz_9) (P := P) (v := .int (P 4 z)) hx hb hts hown hK hP hyz_9 hkz_9 hfz_9 4 (Nat.le_of_ble_eq_true rfl) (hts _ q455) rfl dX0_unfit_44 ?_
        refine lv_icmp_ne (tgt := 54) hx hb dX0_unfit_47 (by decide) (fun c_20 => ?_) (fun c_20 => ?_)
        · refine lv_iconst (v := 1) hx hb dX0_unfit_54 (by decide) ?_
          exact hj_10 1 (if_neg c_20).symm
        · refine lv_iconst (v := 0) hx hb dX0_unfit_50 (by decide) ?_
          refine lv_goto (tgt := 55) hx hb dX0_unfit_51 (by decide) ?_
          exact hj_10 0 (if_pos c_20).symm
      · refine lv_iconst (v := (-1)) hx hb dX0_unfit_21 (by decide) ?_
        exact W.iret (v := (-1)) hx hb hr (fun t ht hW => ⟨(-1), rfl, (if_neg (fun h => h.2.2 c_7)).symm, ht⟩) (fun q h => by cases h) dX0_unfit_22
set_option maxHeartbeats 400000 in
set_option maxRecDepth 100000 in
theorem metX0_recall (l : Launch) (G : va_G) (d : Nat → Nat) (sz : Nat) (a : Nat → Nat) (I : Nat → Int32) (F : Nat → Nat → Int32) (S : Nat → Nat → Option Nat) (lm : Int32 × Nat × Int32) (LP : List Nat) (fp : Nat → va_E) (P : Nat → Nat → Int32) (n : Nat) (v w : Int32) (hn16 : n ≤ 16) (hn : I 12 = nI n) (h01 : w = 0 ∨ w = 1) (hpt : partsIn S P LP fp (a 0) n) : Met l yX0_recall (ws_ yX0_recall cX0_recall 4 (some FieldType.int)) ({ frames := 2, cells := 0, slots := 0, locals := 43 } : Room) (va_Pc [.ref (a 0), .int v, .int w] (pW G d sz (XW a I F S lm LP fp d))) (va_Qi (fun (r : Int32) (u : Nat → va_E) => xRecall S P fp (a 0) n v w r u) (fun (u : (Nat → va_E)) t => bW G d (va_A (XW a I F S lm LP fp d) sz) (XW a I F S lm LP u d) t) (va_A (XW a I F S lm LP fp d) sz)) 0 0 (va_A (XW a I F S lm LP fp d) sz) := by
  refine Met.ofW (cc := cX0_recall) (maxL := 4) (ret := (some FieldType.int)) (by decide) rfl ?_
  intro p e s m args below meth c s₁ B hml hv
  obtain ⟨rfl, hsz, hP, hK, hD0⟩ := hv
  have hx := B.exec
  have hb := B.bytes
  have hr := B.returns
  have hts := atoms_spec (ws := (ws_ yX0_recall cX0_recall 4 (some FieldType.int))) B.pre
  have hts : ∀ w ∈ lw_all, w.before _ s = true := fun w h => hts w (List.mem_cons_of_mem _ h)
  have hown : s.vm.findClass RX0 = some m.cls := findClass_of_methodNamed B.named
  have hlocks := B.notSynchronized
  subst hsz
  have hD := hD0.self (sz := s.heap.size)
  generalize hAe : va_A (XW a I F S lm LP fp d) s.heap.size = A at hD ⊢
  have hA : ∀ q : Nat, s.heap.size ≤ q → A q := fun q h => by rw [← hAe]; exact Or.inr h
  have hS : va_S A s.heap s.heap [] := va_S.rf
  have hl := lv_entry ([.ref (a 0), .int v, .int w]) (n := 4) (Nat.le_of_ble_eq_true rfl)
  rw [lg_entry_eq]
  generalize (lg_sl ([.ref (a 0), .int v, .int w]) ++ List.replicate (4 - (lg_sl ([.ref (a 0), .int v, .int w])).length) Slot.unset).toArray = ls at hl ⊢
  have hl : lv_has ls 4 [(0, .ref (a 0)), (1, .int v), (2, .int w)] := hl
  have hP : va_P G CLS (XW a I F S lm LP fp d) s.heap := hP
  refine lv_aload_n hx hb dX0_recall_0 rfl (lv_at hl 0 rfl) ?_
  refine lv_iload_n hx hb dX0_recall_1 rfl (lv_at hl 1 rfl) ?_
  refine y_rV (As := [.int v]) (rest := []) (ci := 0) (q0 := 0) ⟨hx, hb, hml, hown, hts⟩ hK hP (metX0_isPart l G d a I F S lm LP fp n v hn16 hn) (cwV 1 hts (lw_V q556 q558 qs5 q35 q559) rfl rfl rfl (by decide +kernel) ⟨Nat.le_of_ble_eq_true rfl, Nat.le_of_ble_eq_true rfl⟩) rfl rfl rfl hl.1 rfl (lv_room (Nat.le_of_ble_eq_true rfl)) dX0_recall_2 ⟨Nat.le_of_ble_eq_true rfl, Nat.le_of_ble_eq_true rfl⟩ (fun r_1 hw_2 => ?_)
  refine lv_if_ne (tgt := 10) hx hb dX0_recall_5 (by decide) (fun c_3 => ?_) (fun c_3 => ?_)
  · have c_3 := bI_ne hw_2 c_3
    obtain ⟨q, hq, rfl⟩ := inR_p (n := n) (by omega) c_3
    obtain ⟨yz_4, kz_4, hSz_4, hyz_4, hkz_4, hk0z_4, h7z_4, hfz_4⟩ := hpt q (by omega)
    have hj_5 : ∀ (x1 : Int32) (hx1 : x1 = bI (¬ P 7 q = 0)), W p l e (headSpec (ws_ yX0_recall cX0_recall 4 (some FieldType.int)) ({ frames := 2, cells := 0, slots := 0, locals := 43 } : Room)).room s m ([.ref (a 0), .int (nI q), .int w] : List Value).toArray below meth c s.heap [] 0 0 (MQ below (va_Qi (fun (r : Int32) (u : Nat → va_E) => xRecall S P fp (a 0) n (nI q) w r u) (fun (u : (Nat → va_E)) t => bW G d A (XW a I F S lm LP u d) t) A) ([.ref (a 0), .int (nI q), .int w] : List Value).toArray s 0 0 A) (F0 m 27 ls [.int x1]) := by
      intro x1 hx1
      refine lv_istore_n (lv' := [(3, .int x1), (0, .ref (a 0)), (1, .int (nI q)), (2, .int w)]) hx hb dX0_recall_27 rfl hl (Nat.le_of_ble_eq_true rfl) rfl (fun ls hl => ?_)
      refine lv_aload_n hx hb dX0_recall_28 rfl (lv_at hl 1 rfl) ?_
      refine va_get (D := G) (ci := 0) (v := .ref (a 11)) (C := RX0) (T := TX0) (N := 29) hx hb hts in_X0 hown hK hP 0 rfl rfl 11 (Nat.le_of_ble_eq_true rfl) (hts _ q118) (fun _ h9 => h9) rfl dX0_recall_29 ?_
      refine lv_iload_n hx hb dX0_recall_32 rfl (lv_at hl 2 rfl) ?_
      refine y_aldq (N := q) (f := S 11) hx hb hK hP 8 3 rfl rfl rfl (by omega) (by decide) dX0_recall_33 ?_
      refine y_topv (y := .ref yz_4) (by rw [hSz_4]; rfl) ?_
      refine lv_iload_n hx hb dX0_recall_34 rfl (lv_at hl 3 rfl) ?_
      refine y_putPt (a0 := a 0) (q := q) (k := kz_4) (P := P) (v := w) hx hb hts hown hK hP hD hS hyz_4 hkz_4 hfz_4 (hts _ q463) h01 dX0_recall_35 (fun H locs hP hD hS => ?_)
      have hP : va_P G CLS (XW a I F S lm LP (va_up fp yz_4 (partE (a 0) (va_up P 7 (upd (P 7) q w)) q kz_4)) d) H := hP
      have hD : va_D A (XW a I F S lm LP (va_up fp yz_4 (partE (a 0) (va_up P 7 (upd (P 7) q w)) q kz_4)) d) := hD
      refine lv_iload_n hx hb dX0_recall_38 rfl (lv_at hl 0 rfl) ?_
      exact W.iret (v := x1) hx hb hr (fun t ht hW => ⟨⟨x1, va_up fp yz_4 (partE (a 0) (va_up P 7 (upd (P 7) q w)) q kz_4), rfl, Or.inr ⟨c_3, by rw [cl_nI (show q < 2 ^ 31 by omega), hx1], yz_4, kz_4, by rw [cl_nI (show q < 2 ^ 31 by omega)]; exact hSz_4, by rw [cl_nI (show q < 2 ^ 31 by omega)]⟩, by rw [ht]; exact hP, va_K.moved hW.alike hK, hD⟩, hS.F ht⟩) hS.2.2 dX0_recall_39
    refine lv_aload_n hx hb dX0_recall_10 rfl (lv_at hl 0 rfl) ?_
    refine va_get (D := G) (ci := 0) (v := .ref (a 11)) (C := RX0) (T := TX0) (N := 29) hx hb hts in_X0 hown hK hP 0 rfl rfl 11 (Nat.le_of_ble_eq_true rfl) (hts _ q118) (fun _ h9 => h9) rfl dX0_recall_11 ?_
    refine lv_iload_n hx hb dX0_recall_14 rfl (lv_at hl 1 rfl) ?_
    refine y_aldq (N := q) (f := S 11) hx hb hK hP 8 3 rfl rfl rfl (by omega) (by decide) dX0_recall_15 ?_
    refine y_topv (y := .ref yz_4) (by rw [hSz_4]; rfl) ?_
    refine y_getPt (a0 := a 0) (q := q) (k := kz_4) (P := P) (v := .int (P 7 q)) hx hb hts hown hK hP hyz_4 hkz_4 hfz_4 6 (Nat.le_of_ble_eq_true rfl) (hts _ q463) rfl dX0_recall_16 ?_
    refine lv_if_eq (tgt := 26) hx hb dX0_recall_19 (by decide) (fun c_6 => ?_) (fun c_6 => ?_)
    · refine lv_iconst (v := 0) hx hb dX0_recall_26 (by decide) ?_
      exact hj_5 0 (bI_f (not_not_intro c_6)).symm
    · refine lv_iconst (v := 1) hx hb dX0_recall_22 (by decide) ?_
      refine lv_goto (tgt := 27) hx hb dX0_recall_23 (by decide) ?_
      exact hj_5 1 (bI_t c_6).symm
  · have c_3 := bI_eq hw_2 c_3
    refine lv_iconst (v := (-1)) hx hb dX0_recall_8 (by decide) ?_
    exact W.iret (v := (-1)) hx hb hr (fun t ht hW => ⟨⟨(-1), fp, rfl, Or.inl ⟨c_3, rfl, rfl⟩, by rw [ht]; exact hP, va_K.moved hW.alike hK, hD⟩, hS.F ht⟩) hS.2.2 dX0_recall_9
