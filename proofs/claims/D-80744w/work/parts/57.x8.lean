/-- what 'goesOn' does with dd more parts at most to come -/
def goesC (l : Launch) (G : va_G) (d : Nat → Nat) (a : Nat → Nat) (S : Nat → Nat → Option Nat) (lm : Int32 × Nat × Int32) (LP : List Nat) (fp : Nat → va_E) (P : Nat → Nat → Int32) (n T : Nat) (hd wt : Int32) (dd : Nat) : Prop :=
  ∀ (sz : Nat) (I : Nat → Int32) (F : Nat → Nat → Int32) (k : Nat) (r : Nat → Nat) (g : GS) (u0 : MS) (kn hv cv pv : Int32), k + dd = 16 → LW n T hd wt k r g (I, F) → pathOK P n k r → FRL u0 (I, F) → kn = bI (∃ i, i < k ∧ P 0 (r i) = 2) → hv = hiV P r k → cv = cuV P r k → pv = prV P r k →
    Met l yX0_goesOn (ws_ yX0_goesOn cX0_goesOn 7 none) ({ frames := 2 * dd + 3, cells := 0, slots := 0, locals := 54 * dd + 68 } : Room) (va_Pc [.ref (a 0), .int (nI k), .int kn, .int hv, .int cv, .int pv] (pE G d sz (XW a I F S lm LP fp d) KI)) (va_Qv (fun (u : MS) => FRL u0 u ∧ LR n T hd wt k r (legF P hd wt T n dd k r g) u) (fun (u : MS) t => bW G d (va_A (XW a I F S lm LP fp d) sz) (XW a u.1 u.2 S lm LP fp d) t) (va_A (XW a I F S lm LP fp d) sz)) 0 0 (va_A (XW a I F S lm LP fp d) sz)
set_option maxHeartbeats 400000 in
set_option maxRecDepth 100000 in
theorem metX0_comes (l : Launch) (G : va_G) (d : Nat → Nat) (sz : Nat) (a : Nat → Nat) (I : Nat → Int32) (F : Nat → Nat → Int32) (S : Nat → Nat → Option Nat) (lm : Int32 × Nat × Int32) (LP : List Nat) (fp : Nat → va_E) (P : Nat → Nat → Int32) (n T k : Nat) (hd wt : Int32) (r : Nat → Nat) (g : GS) (dd : Nat) (u0 : MS) (q : Nat) (kn hv cv pv : Int32) (hn16 : n ≤ 16) (hLW : LW n T hd wt k r g (I, F)) (hpath : pathOK P n k r) (hpt : partsIn S P LP fp (a 0) n) (hcut : ∀ p, p < n → ¬ P 0 p = 4 → P 6 p = 0) (hkd : k + 1 + dd = 16) (hq : q < n) (hkn : kn = bI (∃ i, i < k ∧ P 0 (r i) = 2)) (hhv : hv = hiV P r k) (hcv : cv = cuV P r k) (hpv : pv = prV P r k) (hmay : mayM P hd wt r k q) (hu0 : FRL u0 (I, F)) (hG : goesC l G d a S lm LP fp P n T hd wt dd) : Met l yX0_comes (ws_ yX0_comes cX0_comes 9 none) ({ frames := 2 * dd + 4, cells := 0, slots := 0, locals := 54 * dd + 94 } : Room) (va_Pc [.ref (a 0), .int (nI q), .int (nI k), .int kn, .int hv, .int cv, .int pv] (pE G d sz (XW a I F S lm LP fp d) (KI))) (va_Qv (fun (u : MS) => FRL u0 u ∧ LR n T hd wt k r (if P 0 q = 3 then some (endS P hd (va_up r k q) (k + 1) g) else legF P hd wt T n dd (k + 1) (va_up r k q) g) u) (fun (u : MS) t => bW G d (va_A (XW a I F S lm LP fp d) sz) (XW a u.1 u.2 S lm LP fp d) t) (va_A (XW a I F S lm LP fp d) sz)) 0 0 (va_A (XW a I F S lm LP fp d) sz) := by
  refine Met.ofW (cc := cX0_comes) (maxL := 9) (ret := none) (by decide) rfl ?_
  intro p e s m args below meth c s₁ B hml hv
  obtain ⟨rfl, hsz, hP, hK, hD0, hE⟩ := hv
  have hI : KI s := hE
  have hx := B.exec
  have hb := B.bytes
  have hr := B.returns
  have hts := atoms_spec (ws := (ws_ yX0_comes cX0_comes 9 none)) B.pre
  have hts : ∀ w ∈ lw_all, w.before _ s = true := fun w h => hts w (List.mem_cons_of_mem _ h)
  have hown : s.vm.findClass RX0 = some m.cls := findClass_of_methodNamed B.named
  have hlocks := B.notSynchronized
  subst hsz
  have hD := hD0.self (sz := s.heap.size)
  generalize hAe : va_A (XW a I F S lm LP fp d) s.heap.size = A at hD ⊢
  have hA : ∀ q : Nat, s.heap.size ≤ q → A q := fun q h => by rw [← hAe]; exact Or.inr h
  have hS : va_S A s.heap s.heap [] := va_S.rf
  have hl := lv_entry ([.ref (a 0), .int (nI q), .int (nI k), .int kn, .int hv, .int cv, .int pv]) (n := 9) (Nat.le_of_ble_eq_true rfl)
  rw [lg_entry_eq]
  generalize (lg_sl ([.ref (a 0), .int (nI q), .int (nI k), .int kn, .int hv, .int cv, .int pv]) ++ List.replicate (9 - (lg_sl ([.ref (a 0), .int (nI q), .int (nI k), .int kn, .int hv, .int cv, .int pv])).length) Slot.unset).toArray = ls at hl ⊢
  have hl : lv_has ls 9 [(0, .ref (a 0)), (1, .int (nI q)), (2, .int (nI k)), (3, .int kn), (4, .int hv), (5, .int cv), (6, .int pv)] := hl
  have hP : va_P G CLS (XW a I F S lm LP fp d) s.heap := hP
  obtain ⟨yz_1, kz_1, hSz_1, hyz_1, hkz_1, hk0z_1, h7z_1, hfz_1⟩ := hpt q (by omega)
  have q3 : P 0 q = 3 ↔ kz_1 = 3 := nI_is hk0z_1 (by omega) (c := 3) (by decide)
  have q2 : P 0 q = 2 ↔ kz_1 = 2 := nI_is hk0z_1 (by omega) (c := 2) (by decide)
  have q4 : P 0 q = 4 ↔ kz_1 = 4 := nI_is hk0z_1 (by omega) (c := 4) (by decide)
  have ec : cutV P q kz_1 = P 6 q := by
    by_cases w : kz_1 = 4
    · exact if_pos w
    · rw [cutV, if_neg w, hcut q hq (fun z => w (q4.mp z))]
  have eh : hv + P 1 q = hiV P (va_up r k q) (k + 1) := by rw [hhv]; exact sum_push.symm
  have ep : pv + P 3 q = prV P (va_up r k q) (k + 1) := by rw [hpv]; exact sum_push.symm
  have ecu : cv + cutV P q kz_1 = cuV P (va_up r k q) (k + 1) := by rw [hcv, ec]; exact sum_push.symm
  have hpu := LW_push hLW (show q < 16 by omega) (show k < 16 by omega)
  refine lv_aload_n hx hb dX0_comes_0 rfl (lv_at hl 0 rfl) ?_
  refine va_get (D := G) (ci := 0) (v := .ref (a 11)) (C := RX0) (T := TX0) (N := 29) hx hb hts in_X0 hown hK hP 0 rfl rfl 11 (Nat.le_of_ble_eq_true rfl) (hts _ q118) (fun _ h9 => h9) rfl dX0_comes_1 ?_
  refine lv_iload_n hx hb dX0_comes_4 rfl (lv_at hl 1 rfl) ?_
  refine y_aldq (N := q) (f := S 11) hx hb hK hP 8 3 rfl rfl rfl (by omega) (by decide) dX0_comes_5 ?_
  refine y_topv (y := .ref yz_1) (by rw [hSz_1]; rfl) ?_
  refine lv_astore (lv' := [(7, .ref yz_1), (0, .ref (a 0)), (1, .int (nI q)), (2, .int (nI k)), (3, .int kn), (4, .int hv), (5, .int cv), (6, .int pv)]) hx hb dX0_comes_6 hl (Nat.le_of_ble_eq_true rfl) rfl (fun ls hl => ?_)
  refine lv_aload hx hb dX0_comes_8 (lv_at hl 0 rfl) ?_
  refine lv_astore (lv' := [(8, .ref yz_1), (7, .ref yz_1), (0, .ref (a 0)), (1, .int (nI q)), (2, .int (nI k)), (3, .int kn), (4, .int hv), (5, .int cv), (6, .int pv)]) hx hb dX0_comes_10 hl (Nat.le_of_ble_eq_true rfl) rfl (fun ls hl => ?_)
  refine lv_aload_n hx hb dX0_comes_12 rfl (lv_at hl 2 rfl) ?_
  refine va_get (D := G) (ci := 0) (v := .ref (a 13)) (C := RX0) (T := TX0) (N := 29) hx hb hts in_X0 hown hK hP 0 rfl rfl 13 (Nat.le_of_ble_eq_true rfl) (hts _ q122) (fun _ h9 => h9) rfl dX0_comes_13 ?_
  refine lv_iload_n hx hb dX0_comes_16 rfl (lv_at hl 4 rfl) ?_
  refine lv_iload_n hx hb dX0_comes_17 rfl (lv_at hl 3 rfl) ?_
  refine y_iast (N := k) (f := F 13) hx hb hK hP hD hS 9 0 rfl rfl rfl (by omega) (by decide) dX0_comes_18 (fun H locs hP hD hS => ?_)
  have hP : va_P G CLS (XW a I (va_up F 13 (upd (F 13) k (nI q))) S lm LP fp d) H := hP
  have hD : va_D A (XW a I (va_up F 13 (upd (F 13) k (nI q))) S lm LP fp d) := hD
  refine lv_aload hx hb dX0_comes_19 (lv_at hl 1 rfl) ?_
  refine y_kind (a0 := a 0) (q := q) (k := kz_1) (P := P) ⟨hx, hb, hml, hown, hts⟩ hK hP hyz_1 hkz_1 hfz_1 q563 hl.1 (lv_room (Nat.le_of_ble_eq_true rfl)) dX0_comes_21 ⟨(Nat.le_trans (Nat.le_of_ble_eq_true rfl) (Nat.le_add_left 4 (2 * dd))), (Nat.le_trans (Nat.le_of_ble_eq_true rfl) (Nat.le_add_left 94 (54 * dd)))⟩ (Nat.le_of_ble_eq_true rfl) (Nat.le_of_ble_eq_true rfl) ?_
  refine lv_iconst (v := 3) hx hb dX0_comes_24 (by decide) ?_
  refine lv_icmp_ne (tgt := 52) hx hb dX0_comes_25 (by decide) (fun c_2 => ?_) (fun c_2 => ?_)
  · have c_2 : ¬ kz_1 = 3 := fun h => c_2 ((nI_eq (a := kz_1) (b := 3) (by omega) (by omega)).mpr h)
    refine lv_aload_n hx hb dX0_comes_52 rfl (lv_at hl 2 rfl) ?_
    refine lv_dup hx hb dX0_comes_53 rfl ?_
    refine va_get (D := G) (ci := 0) (v := .int (I 14)) (C := RX0) (T := TX0) (N := 29) hx hb hts in_X0 hown hK hP 0 rfl rfl 14 (Nat.le_of_ble_eq_true rfl) (hts _ q123) (fun _ h9 => h9) rfl dX0_comes_54 ?_
    refine lv_iconst (v := 1) hx hb dX0_comes_57 (by decide) ?_
    refine lv_iload_n hx hb dX0_comes_58 rfl (lv_at hl 3 rfl) ?_
    refine lv_ishl hx hb dX0_comes_59 ?_
    refine lv_ior hx hb dX0_comes_60 ?_
    refine va_put (D := G) (ci := 0) (v := .int ((I 14) ||| (1 <<< ((nI q) &&& 31)))) (ty := .int) (C := RX0) (T := TX0) (N := 29) hx hb hts in_X0 tyX0 tyX0_ok nmX0 hown hK hP hD hS 0 rfl rfl 14 (Nat.le_of_ble_eq_true rfl) (hts _ q123) (fun _ h9 => h9) rfl (by decide +kernel) rfl rfl (Nat.le_of_ble_eq_true rfl) dX0_comes_61 (fun H locs hP hD hS => ?_)
    have hP : va_P G CLS (XW a (upd I 14 ((I 14) ||| (1 <<< ((nI q) &&& 31)))) (va_up F 13 (upd (F 13) k (nI q))) S lm LP fp d) H := hP
    have hD : va_D A (XW a (upd I 14 ((I 14) ||| (1 <<< ((nI q) &&& 31)))) (va_up F 13 (upd (F 13) k (nI q))) S lm LP fp d) := hD
    refine lv_aload_n hx hb dX0_comes_64 rfl (lv_at hl 2 rfl) ?_
    refine lv_iload_n hx hb dX0_comes_65 rfl (lv_at hl 4 rfl) ?_
    refine lv_iconst (v := 1) hx hb dX0_comes_66 (by decide) ?_
    refine lv_iadd hx hb dX0_comes_67 ?_
    refine y_top (y := nI (k + 1)) (nI_add k 1) ?_
    have xp := ex_push (C := fun z => P 0 z = 2) (r := r) (k := k) (q := q)
    have hj_3 : ∀ (x : Int32) (hxx : x = bI (∃ i, i < k + 1 ∧ P 0 (va_up r k q i) = 2)), W p l e (headSpec (ws_ yX0_comes cX0_comes 9 none) ({ frames := 2 * dd + 4, cells := 0, slots := 0, locals := 54 * dd + 94 } : Room)).room s m ([.ref (a 0), .int (nI q), .int (nI k), .int kn, .int hv, .int cv, .int pv] : List Value).toArray below meth c H locs 0 0 (MQ below (va_Qv (fun (u : MS) => FRL u0 u ∧ LR n T hd wt k r (if P 0 q = 3 then some (endS P hd (va_up r k q) (k + 1) g) else legF P hd wt T n dd (k + 1) (va_up r k q) g) u) (fun (u : MS) t => bW G d A (XW a u.1 u.2 S lm LP fp d) t) A) ([.ref (a 0), .int (nI q), .int (nI k), .int kn, .int hv, .int cv, .int pv] : List Value).toArray s 0 0 A) (F0 m 86 ls [.int x, .int (nI (k + 1)), .ref (a 0)]) := by
      intro x hxx
      refine lv_iload hx hb dX0_comes_86 (lv_at hl 6 rfl) ?_
      refine lv_aload hx hb dX0_comes_88 (lv_at hl 1 rfl) ?_
      refine y_getPt (a0 := a 0) (q := q) (k := kz_1) (P := P) (v := .int (P 1 q)) hx hb hts hown hK hP hyz_1 hkz_1 hfz_1 1 (Nat.le_of_ble_eq_true rfl) (hts _ q444) rfl dX0_comes_90 ?_
      refine lv_iadd hx hb dX0_comes_93 ?_
      refine lv_iload hx hb dX0_comes_94 (lv_at hl 7 rfl) ?_
      refine lv_aload hx hb dX0_comes_96 (lv_at hl 0 rfl) ?_
      refine y_cut (a0 := a 0) (q := q) (k := kz_1) (P := P) hI ⟨hx, hb, hml, hown, hts⟩ hK hP hyz_1 hkz_1 hfz_1 q640 hl.1 (lv_room (Nat.le_of_ble_eq_true rfl)) dX0_comes_98 ⟨(Nat.le_trans (Nat.le_of_ble_eq_true rfl) (Nat.le_add_left 4 (2 * dd))), (Nat.le_trans (Nat.le_of_ble_eq_true rfl) (Nat.le_add_left 94 (54 * dd)))⟩ (Nat.le_of_ble_eq_true rfl) (Nat.le_of_ble_eq_true rfl) ?_
      refine lv_iadd hx hb dX0_comes_103 ?_
      refine lv_iload hx hb dX0_comes_104 (lv_at hl 8 rfl) ?_
      refine lv_aload hx hb dX0_comes_106 (lv_at hl 1 rfl) ?_
      refine y_getPt (a0 := a 0) (q := q) (k := kz_1) (P := P) (v := .int (P 3 q)) hx hb hts hown hK hP hyz_1 hkz_1 hfz_1 3 (Nat.le_of_ble_eq_true rfl) (hts _ q450) rfl dX0_comes_108 ?_
      refine lv_iadd hx hb dX0_comes_111 ?_
      refine y_cVvE (As := [.int (nI (k + 1)), .int x, .int (hv + (P 1 q)), .int (cv + (cutV P q kz_1)), .int (pv + (P 3 q))]) (rest := []) (ci := 0) (q0 := 0) (fun u U hvm h => KI.moved hvm h) hI ⟨hx, hb, hml, hown, hts⟩ hK hP hD hS hA (hG H.size _ _ (k + 1) (va_up r k q) g u0 x (hv + P 1 q) (cv + cutV P q kz_1) (pv + P 3 q) (by omega) hpu.1 (hpath.snoc hq hmay (fun z => c_2 (q3.mp z))) (hu0.tr hpu.2) hxx eh ecu ep) (cwV 5 hts (lw_V q631 q633 qs6 q35 q634) rfl rfl rfl (by decide +kernel) ⟨(by show 2 * dd + 3 + 1 ≤ 2 * dd + 4; omega), (by show 8 + (7 + 11) + (54 * dd + 68) ≤ 54 * dd + 94; omega)⟩) rfl rfl rfl hl.1 rfl (lv_room (Nat.le_of_ble_eq_true rfl)) dX0_comes_112 ⟨Nat.le_of_ble_eq_true rfl, Nat.le_of_ble_eq_true rfl⟩ (fun u_9 H locs hw9 hP hD hS => ?_)
      refine lv_aload_n hx hb dX0_comes_115 rfl (lv_at hl 2 rfl) ?_
      refine lv_dup hx hb dX0_comes_116 rfl ?_
      refine va_get (D := G) (ci := 0) (v := .int (u_9.1 14)) (C := RX0) (T := TX0) (N := 29) hx hb hts in_X0 hown hK hP 0 rfl rfl 14 (Nat.le_of_ble_eq_true rfl) (hts _ q123) (fun _ h9 => h9) rfl dX0_comes_117 ?_
      refine lv_iconst (v := 1) hx hb dX0_comes_120 (by decide) ?_
      refine lv_iload_n hx hb dX0_comes_121 rfl (lv_at hl 3 rfl) ?_
      refine lv_ishl hx hb dX0_comes_122 ?_
      refine lv_iconst (v := (-1)) hx hb dX0_comes_123 (by decide) ?_
      refine lv_ixor hx hb dX0_comes_124 ?_
      refine lv_iand hx hb dX0_comes_125 ?_
      refine va_put (D := G) (ci := 0) (v := .int ((u_9.1 14) &&& ((1 <<< ((nI q) &&& 31)) ^^^ (-1)))) (ty := .int) (C := RX0) (T := TX0) (N := 29) hx hb hts in_X0 tyX0 tyX0_ok nmX0 hown hK hP hD hS 0 rfl rfl 14 (Nat.le_of_ble_eq_true rfl) (hts _ q123) (fun _ h9 => h9) rfl (by decide +kernel) rfl rfl (Nat.le_of_ble_eq_true rfl) dX0_comes_126 (fun H locs hP hD hS => ?_)
      have hP : va_P G CLS (XW a (upd u_9.1 14 ((u_9.1 14) &&& ((1 <<< ((nI q) &&& 31)) ^^^ (-1)))) u_9.2 S lm LP fp d) H := hP
      have hD : va_D A (XW a (upd u_9.1 14 ((u_9.1 14) &&& ((1 <<< ((nI q) &&& 31)) ^^^ (-1)))) u_9.2 S lm LP fp d) := hD
      exact W.vret hx hb hr (fun t ht hW => ⟨⟨(upd u_9.1 14 ((u_9.1 14) &&& ((1 <<< ((nI q) &&& 31)) ^^^ (-1))), u_9.2), rfl, ⟨LR_popF hw9.1, by rw [if_neg (fun z => c_2 (q3.mp z))]; exact LR_pop hw9.2 (by omega) (fun ⟨i, hi, e⟩ => (hmay.1.2 i hi).1 e)⟩, by rw [ht]; exact hP, va_K.moved hW.alike hK, hD⟩, hS.F ht⟩) hS.2.2 dX0_comes_129
    refine lv_iload_n hx hb dX0_comes_68 rfl (lv_at hl 5 rfl) ?_
    refine lv_if_ne (tgt := 81) hx hb dX0_comes_69 (by decide) (fun c_4 => ?_) (fun c_4 => ?_)
    · have c_4 := bI_ne hkn c_4
      refine lv_iconst (v := 1) hx hb dX0_comes_81 (by decide) ?_
      refine lv_goto (tgt := 86) hx hb dX0_comes_82 (by decide) ?_
      exact hj_3 1 (bI_t (xp.mpr (Or.inl c_4))).symm
    · have c_4 := bI_eq hkn c_4
      refine lv_aload hx hb dX0_comes_72 (lv_at hl 1 rfl) ?_
      refine y_kind (a0 := a 0) (q := q) (k := kz_1) (P := P) ⟨hx, hb, hml, hown, hts⟩ hK hP hyz_1 hkz_1 hfz_1 q563 hl.1 (lv_room (Nat.le_of_ble_eq_true rfl)) dX0_comes_74 ⟨(Nat.le_trans (Nat.le_of_ble_eq_true rfl) (Nat.le_add_left 4 (2 * dd))), (Nat.le_trans (Nat.le_of_ble_eq_true rfl) (Nat.le_add_left 94 (54 * dd)))⟩ (Nat.le_of_ble_eq_true rfl) (Nat.le_of_ble_eq_true rfl) ?_
      refine lv_iconst (v := 2) hx hb dX0_comes_77 (by decide) ?_
      refine lv_icmp_ne (tgt := 85) hx hb dX0_comes_78 (by decide) (fun c_5 => ?_) (fun c_5 => ?_)
      · have c_5 : ¬ kz_1 = 2 := fun h => c_5 ((nI_eq (a := kz_1) (b := 2) (by omega) (by omega)).mpr h)
        refine lv_iconst (v := 0) hx hb dX0_comes_85 (by decide) ?_
        exact hj_3 0 (bI_f (fun z => (xp.mp z).elim c_4 (fun y => c_5 (q2.mp y)))).symm
      · have c_5 : kz_1 = 2 := (nI_eq (a := kz_1) (b := 2) (by omega) (by omega)).mp c_5
        refine lv_iconst (v := 1) hx hb dX0_comes_81 (by decide) ?_
        refine lv_goto (tgt := 86) hx hb dX0_comes_82 (by decide) ?_
        exact hj_3 1 (bI_t (xp.mpr (Or.inr (q2.mpr c_5)))).symm
  · have c_2 : kz_1 = 3 := (nI_eq (a := kz_1) (b := 3) (by omega) (by omega)).mp c_2
    refine lv_aload_n hx hb dX0_comes_28 rfl (lv_at hl 2 rfl) ?_
    refine lv_iload_n hx hb dX0_comes_29 rfl (lv_at hl 4 rfl) ?_
    refine lv_iconst (v := 1) hx hb dX0_comes_30 (by decide) ?_
    refine lv_iadd hx hb dX0_comes_31 ?_
    refine y_top (y := nI (k + 1)) (nI_add k 1) ?_
    refine lv_iload hx hb dX0_comes_32 (lv_at hl 6 rfl) ?_
    refine lv_aload hx hb dX0_comes_34 (lv_at hl 1 rfl) ?_
    refine y_getPt (a0 := a 0) (q := q) (k := kz_1) (P := P) (v := .int (P 1 q)) hx hb hts hown hK hP hyz_1 hkz_1 hfz_1 1 (Nat.le_of_ble_eq_true rfl) (hts _ q444) rfl dX0_comes_36 ?_
    refine lv_iadd hx hb dX0_comes_39 ?_
    refine lv_iload hx hb dX0_comes_40 (lv_at hl 8 rfl) ?_
    refine lv_aload hx hb dX0_comes_42 (lv_at hl 1 rfl) ?_
    refine y_getPt (a0 := a 0) (q := q) (k := kz_1) (P := P) (v := .int (P 3 q)) hx hb hts hown hK hP hyz_1 hkz_1 hfz_1 3 (Nat.le_of_ble_eq_true rfl) (hts _ q450) rfl dX0_comes_44 ?_
    refine lv_iadd hx hb dX0_comes_47 ?_
    refine y_cVv (As := [.int (nI (k + 1)), .int (hv + (P 1 q)), .int (pv + (P 3 q))]) (rest := []) (ci := 0) (q0 := 0) ⟨hx, hb, hml, hown, hts⟩ hK hP hD hS hA (metX0_ends l G d H.size a I (va_up F 13 (upd (F 13) k (nI q))) S lm LP fp (k + 1) (hv + (P 1 q)) (pv + (P 3 q)) (by omega)) (cwV 3 hts (lw_V q662 q664 qs9 q35 q665) rfl rfl rfl (by decide +kernel) ⟨(Nat.le_trans (Nat.le_of_ble_eq_true rfl) (Nat.le_add_left 4 (2 * dd))), (Nat.le_trans (Nat.le_of_ble_eq_true rfl) (Nat.le_add_left 94 (54 * dd)))⟩) rfl rfl rfl hl.1 rfl (lv_room (Nat.le_of_ble_eq_true rfl)) dX0_comes_48 ⟨Nat.le_of_ble_eq_true rfl, Nat.le_of_ble_eq_true rfl⟩ (fun u_8 H locs hw_7 hP hD hS => ?_)
    have hen := LW_ends (q := q) hLW (by omega) eh ep
    rw [← hw_7] at hen
    exact W.vret hx hb hr (fun t ht hW => ⟨⟨(u_8.1, u_8.2), rfl, ⟨hu0.tr hen.2, by rw [if_pos (q3.mpr c_2)]; exact hen.1⟩, by rw [ht]; exact hP, va_K.moved hW.alike hK, hD⟩, hS.F ht⟩) hS.2.2 dX0_comes_51
