/-! ===== plain law: a leg of the system ===== -/
abbrev g00 : GS := (0, 0, 0, 0, fun _ => 0)
abbrev legG (P : Nat → Nat → Int32) (hd wt : Int32) (T n : Nat) : Option GS := legF P hd wt T n 16 0 (fun _ => 0) g00
theorem zero_bits : ∀ p, p < 16 → bitV 0 p = 0 := by decide +kernel
/-- the cells as a leg begins -/
abbrev legI (I : Nat → Int32) (hd wt : Int32) (T : Nat) : Nat → Int32 := upd (upd (upd (upd (upd (upd (upd I 15 hd) 16 wt) 17 0) 18 (nI T)) 19 0) 21 0) 14 0
theorem leg_start {n T : Nat} {hd wt : Int32} {I : Nat → Int32} {F : Nat → Nat → Int32} (hn : I 12 = nI n) : LW n T hd wt 0 (fun _ => 0) g00 (legI I hd wt T, F) :=
  ⟨⟨hn, rfl, rfl, rfl⟩, ⟨rfl, rfl, rfl, fun h => absurd rfl h⟩, fun p hp => (zero_bits p hp).trans (bI_f (fun ⟨i, hi, _⟩ => absurd hi (Nat.not_lt_zero i))).symm, fun i hi => absurd hi (Nat.not_lt_zero i), fun i hi => absurd hi (Nat.not_lt_zero i), Nat.zero_le _, Nat.zero_le _⟩
/-- what a leg answers, and what it leaves -/
def xLegR (P : Nat → Nat → Int32) (n : Nat) (u0 : MS) (hd wt tt : Int32) (r : Int32) (u : MS) : Prop :=
  if ¬ (inR hd 1 3000 ∧ inR wt 1 300 ∧ inR tt 1 20000) then r = -1 ∧ u = u0 else
  ((∀ j, j < 14 ∨ 24 < j ∨ j = 20 → u.1 j = u0.1 j) ∧ ∀ j, j ≠ 13 → j ≠ 20 → u.2 j = u0.2 j) ∧
  match legG P hd wt (cl tt) n with
  | none => r = -6 ∧ u.1 21 = 0 ∧ u.1 17 = tt
  | some g => r = (if g.2.1 = 0 then -9 else g.2.2.1) ∧ u.1 21 = nI g.2.1 ∧ u.1 17 = nI g.1 ∧ g.2.1 ≤ 16 ∧ (¬ g.2.1 = 0 → u.1 24 = g.2.2.2.1 - hd ∧ ∀ i, i < g.2.1 → u.2 20 i = nI (g.2.2.2.2 i))
theorem leg_fr {I : Nat → Int32} {F : Nat → Nat → Int32} {hd wt x y : Int32} {T : Nat} {u : MS} (h : FRL (legI I hd wt T, F) u) {j : Nat} (hj : j < 14 ∨ 24 < j ∨ j = 20) : upd (upd u.1 21 x) 24 y j = I j := by
  rw [upd_at, if_neg (by omega), upd_at, if_neg (by omega), h.1 j (by omega) (by omega) (by omega) (by omega) (by omega) (by omega)]
  show upd (upd (upd (upd (upd (upd (upd I 15 hd) 16 wt) 17 0) 18 (nI T)) 19 0) 21 0) 14 0 j = I j
  simp only [upd_at]
  repeat rw [if_neg (by omega)]
theorem xleg_bad {P : Nat → Nat → Int32} {n : Nat} {u0 : MS} {hd wt tt : Int32} (h : ¬ (inR hd 1 3000 ∧ inR wt 1 300 ∧ inR tt 1 20000)) : xLegR P n u0 hd wt tt (-1) u0 := by
  unfold xLegR
  rw [if_pos h]
  exact ⟨rfl, rfl⟩
set_option maxHeartbeats 400000 in
set_option maxRecDepth 100000 in
theorem metX0_leg (l : Launch) (G : va_G) (d : Nat → Nat) (sz : Nat) (a : Nat → Nat) (I : Nat → Int32) (F : Nat → Nat → Int32) (S : Nat → Nat → Option Nat) (lm : Int32 × Nat × Int32) (LP : List Nat) (fp : Nat → va_E) (P : Nat → Nat → Int32) (n : Nat) (hd wt tt : Int32) (hn16 : n ≤ 16) (hn : I 12 = nI n) (hpt : partsIn S P LP fp (a 0) n) (hcut : ∀ p, p < n → ¬ P 0 p = 4 → P 6 p = 0) : Met l yX0_leg (ws_ yX0_leg cX0_leg 4 (some FieldType.int)) ({ frames := 36, cells := 0, slots := 0, locals := 1000 } : Room) (va_Pc [.ref (a 0), .int hd, .int wt, .int tt] (pE G d sz (XW a I F S lm LP fp d) (KI))) (va_Qi (fun (r : Int32) (u : MS) => xLegR P n (I, F) hd wt tt r u) (fun (u : MS) t => bW G d (va_A (XW a I F S lm LP fp d) sz) (XW a u.1 u.2 S lm LP fp d) t) (va_A (XW a I F S lm LP fp d) sz)) 0 0 (va_A (XW a I F S lm LP fp d) sz) := by
  refine Met.ofW (cc := cX0_leg) (maxL := 4) (ret := (some FieldType.int)) (by decide) rfl ?_
  intro p e s m args below meth c s₁ B hml hv
  obtain ⟨rfl, hsz, hP, hK, hD0, hE⟩ := hv
  have hI : KI s := hE
  have hx := B.exec
  have hb := B.bytes
  have hr := B.returns
  have hts := atoms_spec (ws := (ws_ yX0_leg cX0_leg 4 (some FieldType.int))) B.pre
  have hts : ∀ w ∈ lw_all, w.before _ s = true := fun w h => hts w (List.mem_cons_of_mem _ h)
  have hown : s.vm.findClass RX0 = some m.cls := findClass_of_methodNamed B.named
  have hlocks := B.notSynchronized
  subst hsz
  have hD := hD0.self (sz := s.heap.size)
  generalize hAe : va_A (XW a I F S lm LP fp d) s.heap.size = A at hD ⊢
  have hA : ∀ q : Nat, s.heap.size ≤ q → A q := fun q h => by rw [← hAe]; exact Or.inr h
  have hS : va_S A s.heap s.heap [] := va_S.rf
  have hl := lv_entry ([.ref (a 0), .int hd, .int wt, .int tt]) (n := 4) (Nat.le_of_ble_eq_true rfl)
  rw [lg_entry_eq]
  generalize (lg_sl ([.ref (a 0), .int hd, .int wt, .int tt]) ++ List.replicate (4 - (lg_sl ([.ref (a 0), .int hd, .int wt, .int tt])).length) Slot.unset).toArray = ls at hl ⊢
  have hl : lv_has ls 4 [(0, .ref (a 0)), (1, .int hd), (2, .int wt), (3, .int tt)] := hl
  have hP : va_P G CLS (XW a I F S lm LP fp d) s.heap := hP
  refine lv_iload_n hx hb dX0_leg_0 rfl (lv_at hl 1 rfl) ?_
  refine lv_iconst (v := 1) hx hb dX0_leg_1 (by decide) ?_
  refine lv_sipush (v := 3000) hx hb dX0_leg_2 (by decide +kernel) ?_
  refine y_rS (As := [.int hd, .int 1, .int 3000]) (rest := []) ⟨hx, hb, hml, hown, hts⟩ hK (ws := []) (fun _ _ h => by cases h) (metX0_in l G d hd 1 3000) (va_cwS 3 hts (lw_S q204 q205 q35 q206) rfl rfl rfl (by decide +kernel) ⟨Nat.le_of_ble_eq_true rfl, Nat.le_of_ble_eq_true rfl⟩) rfl hl.1 rfl (lv_room (Nat.le_of_ble_eq_true rfl)) dX0_leg_5 ⟨Nat.le_of_ble_eq_true rfl, Nat.le_of_ble_eq_true rfl⟩ (fun r_1 hr_2 => ?_)
  refine lv_if_eq (tgt := 33) hx hb dX0_leg_8 (by decide) (fun c_3 => ?_) (fun c_3 => ?_)
  · have c_3 := bI_eq hr_2 c_3
    refine lv_iconst (v := (-1)) hx hb dX0_leg_33 (by decide) ?_
    exact W.iret (v := (-1)) hx hb hr (fun t ht hW => ⟨⟨(-1), (I, F), rfl, xleg_bad (fun h => c_3 h.1), by rw [ht]; exact hP, va_K.moved hW.alike hK, hD⟩, hS.F ht⟩) hS.2.2 dX0_leg_34
  · have c_3 := bI_ne hr_2 c_3
    refine lv_iload_n hx hb dX0_leg_11 rfl (lv_at hl 2 rfl) ?_
    refine lv_iconst (v := 1) hx hb dX0_leg_12 (by decide) ?_
    refine lv_sipush (v := 300) hx hb dX0_leg_13 (by decide +kernel) ?_
    refine y_rS (As := [.int wt, .int 1, .int 300]) (rest := []) ⟨hx, hb, hml, hown, hts⟩ hK (ws := []) (fun _ _ h => by cases h) (metX0_in l G d wt 1 300) (va_cwS 3 hts (lw_S q204 q205 q35 q206) rfl rfl rfl (by decide +kernel) ⟨Nat.le_of_ble_eq_true rfl, Nat.le_of_ble_eq_true rfl⟩) rfl hl.1 rfl (lv_room (Nat.le_of_ble_eq_true rfl)) dX0_leg_16 ⟨Nat.le_of_ble_eq_true rfl, Nat.le_of_ble_eq_true rfl⟩ (fun r_4 hr_5 => ?_)
    refine lv_if_eq (tgt := 33) hx hb dX0_leg_19 (by decide) (fun c_6 => ?_) (fun c_6 => ?_)
    · have c_6 := bI_eq hr_5 c_6
      refine lv_iconst (v := (-1)) hx hb dX0_leg_33 (by decide) ?_
      exact W.iret (v := (-1)) hx hb hr (fun t ht hW => ⟨⟨(-1), (I, F), rfl, xleg_bad (fun h => c_6 h.2.1), by rw [ht]; exact hP, va_K.moved hW.alike hK, hD⟩, hS.F ht⟩) hS.2.2 dX0_leg_34
    · have c_6 := bI_ne hr_5 c_6
      refine lv_iload_n hx hb dX0_leg_22 rfl (lv_at hl 3 rfl) ?_
      refine lv_iconst (v := 1) hx hb dX0_leg_23 (by decide) ?_
      refine lv_sipush (v := 20000) hx hb dX0_leg_24 (by decide +kernel) ?_
      refine y_rS (As := [.int tt, .int 1, .int 20000]) (rest := []) ⟨hx, hb, hml, hown, hts⟩ hK (ws := []) (fun _ _ h => by cases h) (metX0_in l G d tt 1 20000) (va_cwS 3 hts (lw_S q204 q205 q35 q206) rfl rfl rfl (by decide +kernel) ⟨Nat.le_of_ble_eq_true rfl, Nat.le_of_ble_eq_true rfl⟩) rfl hl.1 rfl (lv_room (Nat.le_of_ble_eq_true rfl)) dX0_leg_27 ⟨Nat.le_of_ble_eq_true rfl, Nat.le_of_ble_eq_true rfl⟩ (fun r_7 hr_8 => ?_)
      refine lv_if_ne (tgt := 35) hx hb dX0_leg_30 (by decide) (fun c_9 => ?_) (fun c_9 => ?_)
      · have c_9 := bI_ne hr_8 c_9
        obtain ⟨T, hT, rfl⟩ := inR_n (n := 20000) (by decide) ⟨Int32.le_trans (by decide) c_9.1, c_9.2⟩
        refine lv_aload_n hx hb dX0_leg_35 rfl (lv_at hl 0 rfl) ?_
        refine lv_iload_n hx hb dX0_leg_36 rfl (lv_at hl 1 rfl) ?_
        refine va_put (D := G) (ci := 0) (v := .int hd) (ty := .int) (C := RX0) (T := TX0) (N := 29) hx hb hts in_X0 tyX0 tyX0_ok nmX0 hown hK hP hD hS 0 rfl rfl 15 (Nat.le_of_ble_eq_true rfl) (hts _ q124) (fun _ h9 => h9) rfl (by decide +kernel) rfl rfl (Nat.le_of_ble_eq_true rfl) dX0_leg_37 (fun H locs hP hD hS => ?_)
        have hP : va_P G CLS (XW a (upd I 15 hd) F S lm LP fp d) H := hP
        have hD : va_D A (XW a (upd I 15 hd) F S lm LP fp d) := hD
        refine lv_aload_n hx hb dX0_leg_40 rfl (lv_at hl 0 rfl) ?_
        refine lv_iload_n hx hb dX0_leg_41 rfl (lv_at hl 2 rfl) ?_
        refine va_put (D := G) (ci := 0) (v := .int wt) (ty := .int) (C := RX0) (T := TX0) (N := 29) hx hb hts in_X0 tyX0 tyX0_ok nmX0 hown hK hP hD hS 0 rfl rfl 16 (Nat.le_of_ble_eq_true rfl) (hts _ q125) (fun _ h9 => h9) rfl (by decide +kernel) rfl rfl (Nat.le_of_ble_eq_true rfl) dX0_leg_42 (fun H locs hP hD hS => ?_)
        have hP : va_P G CLS (XW a (upd (upd I 15 hd) 16 wt) F S lm LP fp d) H := hP
        have hD : va_D A (XW a (upd (upd I 15 hd) 16 wt) F S lm LP fp d) := hD
        refine lv_aload_n hx hb dX0_leg_45 rfl (lv_at hl 0 rfl) ?_
        refine lv_iconst (v := 0) hx hb dX0_leg_46 (by decide) ?_
        refine va_put (D := G) (ci := 0) (v := .int 0) (ty := .int) (C := RX0) (T := TX0) (N := 29) hx hb hts in_X0 tyX0 tyX0_ok nmX0 hown hK hP hD hS 0 rfl rfl 17 (Nat.le_of_ble_eq_true rfl) (hts _ q126) (fun _ h9 => h9) rfl (by decide +kernel) rfl rfl (Nat.le_of_ble_eq_true rfl) dX0_leg_47 (fun H locs hP hD hS => ?_)
        have hP : va_P G CLS (XW a (upd (upd (upd I 15 hd) 16 wt) 17 0) F S lm LP fp d) H := hP
        have hD : va_D A (XW a (upd (upd (upd I 15 hd) 16 wt) 17 0) F S lm LP fp d) := hD
        refine lv_aload_n hx hb dX0_leg_50 rfl (lv_at hl 0 rfl) ?_
        refine lv_iload_n hx hb dX0_leg_51 rfl (lv_at hl 3 rfl) ?_
        refine va_put (D := G) (ci := 0) (v := .int (nI T)) (ty := .int) (C := RX0) (T := TX0) (N := 29) hx hb hts in_X0 tyX0 tyX0_ok nmX0 hown hK hP hD hS 0 rfl rfl 18 (Nat.le_of_ble_eq_true rfl) (hts _ q127) (fun _ h9 => h9) rfl (by decide +kernel) rfl rfl (Nat.le_of_ble_eq_true rfl) dX0_leg_52 (fun H locs hP hD hS => ?_)
        have hP : va_P G CLS (XW a (upd (upd (upd (upd I 15 hd) 16 wt) 17 0) 18 (nI T)) F S lm LP fp d) H := hP
        have hD : va_D A (XW a (upd (upd (upd (upd I 15 hd) 16 wt) 17 0) 18 (nI T)) F S lm LP fp d) := hD
        refine lv_aload_n hx hb dX0_leg_55 rfl (lv_at hl 0 rfl) ?_
        refine lv_iconst (v := 0) hx hb dX0_leg_56 (by decide) ?_
        refine va_put (D := G) (ci := 0) (v := .int 0) (ty := .boolean) (C := RX0) (T := TX0) (N := 29) hx hb hts in_X0 tyX0 tyX0_ok nmX0 hown hK hP hD hS 0 rfl rfl 19 (Nat.le_of_ble_eq_true rfl) (hts _ q128) (fun _ h9 => h9) rfl (by decide +kernel) rfl rfl (Nat.le_of_ble_eq_true rfl) dX0_leg_57 (fun H locs hP hD hS => ?_)
        have hP : va_P G CLS (XW a (upd (upd (upd (upd (upd I 15 hd) 16 wt) 17 0) 18 (nI T)) 19 0) F S lm LP fp d) H := hP
        have hD : va_D A (XW a (upd (upd (upd (upd (upd I 15 hd) 16 wt) 17 0) 18 (nI T)) 19 0) F S lm LP fp d) := hD
        refine lv_aload_n hx hb dX0_leg_60 rfl (lv_at hl 0 rfl) ?_
        refine lv_iconst (v := 0) hx hb dX0_leg_61 (by decide) ?_
        refine va_put (D := G) (ci := 0) (v := .int 0) (ty := .int) (C := RX0) (T := TX0) (N := 29) hx hb hts in_X0 tyX0 tyX0_ok nmX0 hown hK hP hD hS 0 rfl rfl 21 (Nat.le_of_ble_eq_true rfl) (hts _ q130) (fun _ h9 => h9) rfl (by decide +kernel) rfl rfl (Nat.le_of_ble_eq_true rfl) dX0_leg_62 (fun H locs hP hD hS => ?_)
        have hP : va_P G CLS (XW a (upd (upd (upd (upd (upd (upd I 15 hd) 16 wt) 17 0) 18 (nI T)) 19 0) 21 0) F S lm LP fp d) H := hP
        have hD : va_D A (XW a (upd (upd (upd (upd (upd (upd I 15 hd) 16 wt) 17 0) 18 (nI T)) 19 0) 21 0) F S lm LP fp d) := hD
        refine lv_aload_n hx hb dX0_leg_65 rfl (lv_at hl 0 rfl) ?_
        refine lv_iconst (v := 0) hx hb dX0_leg_66 (by decide) ?_
        refine va_put (D := G) (ci := 0) (v := .int 0) (ty := .int) (C := RX0) (T := TX0) (N := 29) hx hb hts in_X0 tyX0 tyX0_ok nmX0 hown hK hP hD hS 0 rfl rfl 14 (Nat.le_of_ble_eq_true rfl) (hts _ q123) (fun _ h9 => h9) rfl (by decide +kernel) rfl rfl (Nat.le_of_ble_eq_true rfl) dX0_leg_67 (fun H locs hP hD hS => ?_)
        have hP : va_P G CLS (XW a (upd (upd (upd (upd (upd (upd (upd I 15 hd) 16 wt) 17 0) 18 (nI T)) 19 0) 21 0) 14 0) F S lm LP fp d) H := hP
        have hD : va_D A (XW a (upd (upd (upd (upd (upd (upd (upd I 15 hd) 16 wt) 17 0) 18 (nI T)) 19 0) 21 0) 14 0) F S lm LP fp d) := hD
        refine lv_aload_n hx hb dX0_leg_70 rfl (lv_at hl 0 rfl) ?_
        refine lv_iconst (v := 0) hx hb dX0_leg_71 (by decide) ?_
        refine lv_iconst (v := 0) hx hb dX0_leg_72 (by decide) ?_
        refine lv_iconst (v := 0) hx hb dX0_leg_73 (by decide) ?_
        refine lv_iconst (v := 0) hx hb dX0_leg_74 (by decide) ?_
        refine lv_iconst (v := 0) hx hb dX0_leg_75 (by decide) ?_
        refine y_cVvE (As := [.int 0, .int 0, .int 0, .int 0, .int 0]) (rest := []) (ci := 0) (q0 := 0) (fun u U hvm h => KI.moved hvm h) hI ⟨hx, hb, hml, hown, hts⟩ hK hP hD hS hA (goes_all l G d a S lm LP fp P n T hd wt hn16 (by omega) hpt hcut 16 H.size (legI I hd wt T) F 0 (fun _ => 0) g00 (legI I hd wt T, F) 0 0 0 0 rfl (leg_start hn) pathOK.nil FRL.rf (bI_f (fun ⟨i, hi, _⟩ => absurd hi (Nat.not_lt_zero i))).symm rfl rfl rfl) (cwV 5 hts (lw_V q631 q633 qs6 q35 q634) rfl rfl rfl (by decide +kernel) ⟨Nat.le_of_ble_eq_true rfl, Nat.le_of_ble_eq_true rfl⟩) rfl rfl rfl hl.1 rfl (lv_room (Nat.le_of_ble_eq_true rfl)) dX0_leg_76 ⟨Nat.le_of_ble_eq_true rfl, Nat.le_of_ble_eq_true rfl⟩ (fun u_9 H locs hw9 hP hD hS => ?_)
        obtain ⟨hw8, hw9⟩ := hw9
        rcases hro : legG P hd wt T n with _ | g2
        · rw [show legF P hd wt T n 16 0 (fun _ => 0) g00 = legG P hd wt T n from rfl, hro] at hw9
          refine lv_aload_n hx hb dX0_leg_79 rfl (lv_at hl 0 rfl) ?_
          refine lv_aload_n hx hb dX0_leg_80 rfl (lv_at hl 0 rfl) ?_
          refine va_get (D := G) (ci := 0) (v := .int (u_9.1 19)) (C := RX0) (T := TX0) (N := 29) hx hb hts in_X0 hown hK hP 0 rfl rfl 19 (Nat.le_of_ble_eq_true rfl) (hts _ q128) (fun _ h9 => h9) rfl dX0_leg_81 ?_
          refine y_top (y := 1) hw9.2.1 ?_
          refine lv_if_eq (tgt := 91) hx hb dX0_leg_84 (by decide) (fun c_10 => ?_) (fun c_10 => ?_)
          · exact absurd c_10 (by decide)
          · refine lv_iconst (v := 0) hx hb dX0_leg_87 (by decide) ?_
            refine lv_goto (tgt := 95) hx hb dX0_leg_88 (by decide) ?_
            refine va_put (D := G) (ci := 0) (v := .int 0) (ty := .int) (C := RX0) (T := TX0) (N := 29) hx hb hts in_X0 tyX0 tyX0_ok nmX0 hown hK hP hD hS 0 rfl rfl 21 (Nat.le_of_ble_eq_true rfl) (hts _ q130) (fun _ h9 => h9) rfl (by decide +kernel) rfl rfl (Nat.le_of_ble_eq_true rfl) dX0_leg_95 (fun H locs hP hD hS => ?_)
            have hP : va_P G CLS (XW a (upd u_9.1 21 0) u_9.2 S lm LP fp d) H := hP
            have hD : va_D A (XW a (upd u_9.1 21 0) u_9.2 S lm LP fp d) := hD
            refine lv_aload_n hx hb dX0_leg_98 rfl (lv_at hl 0 rfl) ?_
            refine lv_aload_n hx hb dX0_leg_99 rfl (lv_at hl 0 rfl) ?_
            refine va_get (D := G) (ci := 0) (v := .int (u_9.1 23)) (C := RX0) (T := TX0) (N := 29) hx hb hts in_X0 hown hK hP 0 rfl rfl 23 (Nat.le_of_ble_eq_true rfl) (hts _ q132) (fun _ h9 => h9) rfl dX0_leg_100 ?_
            refine lv_iload_n hx hb dX0_leg_103 rfl (lv_at hl 1 rfl) ?_
            refine lv_isub hx hb dX0_leg_104 ?_
            refine va_put (D := G) (ci := 0) (v := .int ((u_9.1 23) - hd)) (ty := .int) (C := RX0) (T := TX0) (N := 29) hx hb hts in_X0 tyX0 tyX0_ok nmX0 hown hK hP hD hS 0 rfl rfl 24 (Nat.le_of_ble_eq_true rfl) (hts _ q133) (fun _ h9 => h9) rfl (by decide +kernel) rfl rfl (Nat.le_of_ble_eq_true rfl) dX0_leg_105 (fun H locs hP hD hS => ?_)
            have hP : va_P G CLS (XW a (upd (upd u_9.1 21 0) 24 ((u_9.1 23) - hd)) u_9.2 S lm LP fp d) H := hP
            have hD : va_D A (XW a (upd (upd u_9.1 21 0) 24 ((u_9.1 23) - hd)) u_9.2 S lm LP fp d) := hD
            refine lv_aload_n hx hb dX0_leg_108 rfl (lv_at hl 0 rfl) ?_
            refine va_get (D := G) (ci := 0) (v := .int (u_9.1 19)) (C := RX0) (T := TX0) (N := 29) hx hb hts in_X0 hown hK hP 0 rfl rfl 19 (Nat.le_of_ble_eq_true rfl) (hts _ q128) (fun _ h9 => h9) rfl dX0_leg_109 ?_
            refine y_top (y := 1) hw9.2.1 ?_
            refine lv_if_eq (tgt := 120) hx hb dX0_leg_112 (by decide) (fun c_11 => ?_) (fun c_11 => ?_)
            · exact absurd c_11 (by decide)
            · refine lv_bipush (v := (-6)) hx hb dX0_leg_115 (by decide +kernel) ?_
              refine lv_goto (tgt := 136) hx hb dX0_leg_117 (by decide) ?_
              exact W.iret (v := (-6)) hx hb hr (fun t ht hW => ⟨⟨(-6), (upd (upd u_9.1 21 0) 24 ((u_9.1 23) - hd), u_9.2), rfl, by
                  show xLegR _ _ _ _ _ _ _ _
                  unfold xLegR
                  rw [if_neg (not_not_intro ⟨c_3, c_6, c_9⟩), show cl (nI T) = T from cl_nI (by omega), hro]
                  refine ⟨⟨fun j hj => leg_fr hw8 hj, fun j a b => hw8.2 j a b⟩, ?_⟩
                  exact ⟨rfl, rfl, hw9.2.2⟩, by rw [ht]; exact hP, va_K.moved hW.alike hK, hD⟩, hS.F ht⟩) hS.2.2 dX0_leg_136
        · rw [show legF P hd wt T n 16 0 (fun _ => 0) g00 = legG P hd wt T n from rfl, hro] at hw9
          have hb16 : g2.2.1 ≤ 16 := hw9.2.2.2.2.2.1
          refine lv_aload_n hx hb dX0_leg_79 rfl (lv_at hl 0 rfl) ?_
          refine lv_aload_n hx hb dX0_leg_80 rfl (lv_at hl 0 rfl) ?_
          refine va_get (D := G) (ci := 0) (v := .int (u_9.1 19)) (C := RX0) (T := TX0) (N := 29) hx hb hts in_X0 hown hK hP 0 rfl rfl 19 (Nat.le_of_ble_eq_true rfl) (hts _ q128) (fun _ h9 => h9) rfl dX0_leg_81 ?_
          refine y_top (y := 0) hw9.2.1.2.1 ?_
          refine lv_if_eq (tgt := 91) hx hb dX0_leg_84 (by decide) (fun c_12 => ?_) (fun c_12 => ?_)
          · refine lv_aload_n hx hb dX0_leg_91 rfl (lv_at hl 0 rfl) ?_
            refine va_get (D := G) (ci := 0) (v := .int (u_9.1 21)) (C := RX0) (T := TX0) (N := 29) hx hb hts in_X0 hown hK hP 0 rfl rfl 21 (Nat.le_of_ble_eq_true rfl) (hts _ q130) (fun _ h9 => h9) rfl dX0_leg_92 ?_
            refine y_top (y := nI g2.2.1) hw9.2.1.2.2.1 ?_
            refine va_put (D := G) (ci := 0) (v := .int (nI g2.2.1)) (ty := .int) (C := RX0) (T := TX0) (N := 29) hx hb hts in_X0 tyX0 tyX0_ok nmX0 hown hK hP hD hS 0 rfl rfl 21 (Nat.le_of_ble_eq_true rfl) (hts _ q130) (fun _ h9 => h9) rfl (by decide +kernel) rfl rfl (Nat.le_of_ble_eq_true rfl) dX0_leg_95 (fun H locs hP hD hS => ?_)
            have hP : va_P G CLS (XW a (upd u_9.1 21 (nI g2.2.1)) u_9.2 S lm LP fp d) H := hP
            have hD : va_D A (XW a (upd u_9.1 21 (nI g2.2.1)) u_9.2 S lm LP fp d) := hD
            refine lv_aload_n hx hb dX0_leg_98 rfl (lv_at hl 0 rfl) ?_
            refine lv_aload_n hx hb dX0_leg_99 rfl (lv_at hl 0 rfl) ?_
            refine va_get (D := G) (ci := 0) (v := .int (u_9.1 23)) (C := RX0) (T := TX0) (N := 29) hx hb hts in_X0 hown hK hP 0 rfl rfl 23 (Nat.le_of_ble_eq_true rfl) (hts _ q132) (fun _ h9 => h9) rfl dX0_leg_100 ?_
            refine lv_iload_n hx hb dX0_leg_103 rfl (lv_at hl 1 rfl) ?_
            refine lv_isub hx hb dX0_leg_104 ?_
            refine va_put (D := G) (ci := 0) (v := .int ((u_9.1 23) - hd)) (ty := .int) (C := RX0) (T := TX0) (N := 29) hx hb hts in_X0 tyX0 tyX0_ok nmX0 hown hK hP hD hS 0 rfl rfl 24 (Nat.le_of_ble_eq_true rfl) (hts _ q133) (fun _ h9 => h9) rfl (by decide +kernel) rfl rfl (Nat.le_of_ble_eq_true rfl) dX0_leg_105 (fun H locs hP hD hS => ?_)
            have hP : va_P G CLS (XW a (upd (upd u_9.1 21 (nI g2.2.1)) 24 ((u_9.1 23) - hd)) u_9.2 S lm LP fp d) H := hP
            have hD : va_D A (XW a (upd (upd u_9.1 21 (nI g2.2.1)) 24 ((u_9.1 23) - hd)) u_9.2 S lm LP fp d) := hD
            refine lv_aload_n hx hb dX0_leg_108 rfl (lv_at hl 0 rfl) ?_
            refine va_get (D := G) (ci := 0) (v := .int (u_9.1 19)) (C := RX0) (T := TX0) (N := 29) hx hb hts in_X0 hown hK hP 0 rfl rfl 19 (Nat.le_of_ble_eq_true rfl) (hts _ q128) (fun _ h9 => h9) rfl dX0_leg_109 ?_
            refine y_top (y := 0) hw9.2.1.2.1 ?_
            refine lv_if_eq (tgt := 120) hx hb dX0_leg_112 (by decide) (fun c_13 => ?_) (fun c_13 => ?_)
            · refine lv_aload_n hx hb dX0_leg_120 rfl (lv_at hl 0 rfl) ?_
              refine va_get (D := G) (ci := 0) (v := .int (nI g2.2.1)) (C := RX0) (T := TX0) (N := 29) hx hb hts in_X0 hown hK hP 0 rfl rfl 21 (Nat.le_of_ble_eq_true rfl) (hts _ q130) (fun _ h9 => h9) rfl dX0_leg_121 ?_
              refine lv_if_ne (tgt := 132) hx hb dX0_leg_124 (by decide) (fun c_14 => ?_) (fun c_14 => ?_)
              · have c_14 : ¬ g2.2.1 = 0 := fun h => c_14 ((nI_eq (a := g2.2.1) (b := 0) (by omega) (by omega)).mpr h)
                refine lv_aload_n hx hb dX0_leg_132 rfl (lv_at hl 0 rfl) ?_
                refine va_get (D := G) (ci := 0) (v := .int (u_9.1 22)) (C := RX0) (T := TX0) (N := 29) hx hb hts in_X0 hown hK hP 0 rfl rfl 22 (Nat.le_of_ble_eq_true rfl) (hts _ q131) (fun _ h9 => h9) rfl dX0_leg_133 ?_
                exact W.iret (v := u_9.1 22) hx hb hr (fun t ht hW => ⟨⟨u_9.1 22, (upd (upd u_9.1 21 (nI g2.2.1)) 24 ((u_9.1 23) - hd), u_9.2), rfl, by
                    show xLegR _ _ _ _ _ _ _ _
                    unfold xLegR
                    rw [if_neg (not_not_intro ⟨c_3, c_6, c_9⟩), show cl (nI T) = T from cl_nI (by omega), hro]
                    refine ⟨⟨fun j hj => leg_fr hw8 hj, fun j a b => hw8.2 j a b⟩, ?_⟩
                    exact ⟨by rw [if_neg c_14]; exact (hw9.2.1.2.2.2 c_14).1, rfl, hw9.2.1.1, hb16, fun z => ⟨congrArg (· - hd) (hw9.2.1.2.2.2 z).2, hw9.2.2.2.2.1⟩⟩, by rw [ht]; exact hP, va_K.moved hW.alike hK, hD⟩, hS.F ht⟩) hS.2.2 dX0_leg_136
              · have c_14 : g2.2.1 = 0 := (nI_eq (a := g2.2.1) (b := 0) (by omega) (by omega)).mp c_14
                refine lv_bipush (v := (-9)) hx hb dX0_leg_127 (by decide +kernel) ?_
                refine lv_goto (tgt := 136) hx hb dX0_leg_129 (by decide) ?_
                exact W.iret (v := (-9)) hx hb hr (fun t ht hW => ⟨⟨(-9), (upd (upd u_9.1 21 (nI g2.2.1)) 24 ((u_9.1 23) - hd), u_9.2), rfl, by
                    show xLegR _ _ _ _ _ _ _ _
                    unfold xLegR
                    rw [if_neg (not_not_intro ⟨c_3, c_6, c_9⟩), show cl (nI T) = T from cl_nI (by omega), hro]
                    refine ⟨⟨fun j hj => leg_fr hw8 hj, fun j a b => hw8.2 j a b⟩, ?_⟩
                    exact ⟨(if_pos c_14).symm, rfl, hw9.2.1.1, hb16, fun z => absurd c_14 z⟩, by rw [ht]; exact hP, va_K.moved hW.alike hK, hD⟩, hS.F ht⟩) hS.2.2 dX0_leg_136
            · exact absurd c_13 (by decide)
          · exact absurd c_12 (by decide)
      · have c_9 := bI_eq hr_8 c_9
        refine lv_iconst (v := (-1)) hx hb dX0_leg_33 (by decide) ?_
        exact W.iret (v := (-1)) hx hb hr (fun t ht hW => ⟨⟨(-1), (I, F), rfl, xleg_bad (fun h => c_9 h.2.2), by rw [ht]; exact hP, va_K.moved hW.alike hK, hD⟩, hS.F ht⟩) hS.2.2 dX0_leg_34
