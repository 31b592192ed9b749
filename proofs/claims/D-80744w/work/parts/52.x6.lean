/-! ===== plain law: the system's legs ===== -/
theorem may_sum {x y : Nat → Int32} {a c : Int32} {k : Nat} : sumR x k + a - sumR y k - c = sumA (a - c) (fun i => x i - y i) k := by
  induction k with
  | zero =>
    show (0 : Int32) + a - 0 - c = a - c
    grind
  | succ k ih =>
    show (sumR x k + x k) + a - (sumR y k + y k) - c = sumA (a - c) (fun i => x i - y i) k + (x k - y k)
    rw [← ih]
    grind
theorem bars0 {P : Nat → Nat → Int32} {a c : Nat} : barsV P a c = 0 ↔ P 5 a = P 4 c ∧ P 7 a = 0 ∧ P 7 c = 0 ∧ ¬ P 0 a = 3 ∧ ¬ P 0 c = 1 ∧ ¬ (P 0 a = 2 ∧ P 0 c = 2) := by
  have key : ∀ x ∈ [(0 : Int32), 1], ∀ y ∈ [(0 : Int32), 2], ∀ z ∈ [(0 : Int32), 4], ∀ w ∈ [(0 : Int32), 8], x + y + z + w = 0 → x = 0 ∧ y = 0 ∧ z = 0 ∧ w = 0 := by decide
  constructor
  · intro h
    obtain ⟨h1, h2, h3, h4⟩ := key (if P 5 a = P 4 c then 0 else 1) (by split <;> simp) (if ¬ P 7 a = 0 ∨ ¬ P 7 c = 0 then 2 else 0) or2 (if P 0 a = 3 ∨ P 0 c = 1 then 4 else 0) or2 (if P 0 a = 2 ∧ P 0 c = 2 then 8 else 0) or2 h
    refine ⟨?_, ?_, ?_, ?_, ?_, ?_⟩
    · by_cases q : P 5 a = P 4 c
      · exact q
      · rw [if_neg q] at h1; exact absurd h1 (by decide)
    · by_cases q : P 7 a = 0
      · exact q
      · rw [if_pos (Or.inl q)] at h2; exact absurd h2 (by decide)
    · by_cases q : P 7 c = 0
      · exact q
      · rw [if_pos (Or.inr q)] at h2; exact absurd h2 (by decide)
    · intro q; rw [if_pos (Or.inl q)] at h3; exact absurd h3 (by decide)
    · intro q; rw [if_pos (Or.inr q)] at h3; exact absurd h3 (by decide)
    · intro q; rw [if_pos q] at h4; exact absurd h4 (by decide)
  · intro ⟨h1, h2, h3, h4, h5, h6⟩
    unfold barsV
    rw [if_pos h1, if_neg (fun q => q.elim (fun z => z h2) (fun z => z h3)), if_neg (fun q => q.elim h4 h5), if_neg h6]
    rfl
/-- as the system asks it -/
abbrev mayX (P : Nat → Nat → Int32) (hd wt : Int32) (r : Nat → Nat) (k q kd : Nat) (hv cv : Int32) : Prop := ¬ (∃ i, i < k ∧ r i = q) ∧ P 7 q = 0 ∧ ¬ P 2 q < wt ∧ (k = 0 ↔ kd = 1) ∧ ¬ ((∃ i, i < k ∧ P 0 (r i) = 2) ∧ kd = 2) ∧ (k = 0 ∨ P 5 (r (k - 1)) = P 4 q) ∧ hv + P 1 q - cv - cutV P q kd ≤ hd
theorem may_iff {P : Nat → Nat → Int32} {hd wt hv cv : Int32} {r : Nat → Nat} {n k q kd : Nat} (hp : pathOK P n k r) (h0 : P 0 q = nI kd) (hk : kd < 5) (hc : ¬ P 0 q = 4 → P 6 q = 0) (e1 : hv = hiV P r k) (e2 : cv = cuV P r k) : mayM P hd wt r k q ↔ mayX P hd wt r k q kd hv cv := by
  have q1 : P 0 q = 1 ↔ kd = 1 := nI_is h0 hk (c := 1) (by decide)
  have q2 : P 0 q = 2 ↔ kd = 2 := nI_is h0 hk (c := 2) (by decide)
  have q4 : P 0 q = 4 ↔ kd = 4 := nI_is h0 hk (c := 4) (by decide)
  have ec : cutV P q kd = P 6 q := by
    by_cases w : kd = 4
    · exact if_pos w
    · rw [cutV, if_neg w, hc (fun z => w (q4.mp z))]
  have es : hv + P 1 q - cv - cutV P q kd = mayW P r q k := by
    rw [ec, e1, e2]
    exact may_sum
  rw [mayX, es]
  constructor
  · rintro ⟨⟨⟨a1, a2, a3⟩, a4⟩, a5⟩
    refine ⟨fun ⟨i, hi, e⟩ => (a4 i hi).1 e, a2, a1, ?_, fun ⟨⟨i, hi, e⟩, z⟩ => (a4 i hi).2 ⟨e, q2.mpr z⟩, ?_, a5⟩
    · by_cases w : k = 0
      · rw [if_pos w] at a3
        exact ⟨fun _ => q1.mp a3, fun _ => w⟩
      · rw [if_neg w] at a3
        exact ⟨fun z => absurd z w, fun z => absurd (q1.mpr z) (bars0.mp a3).2.2.2.2.1⟩
    · by_cases w : k = 0
      · exact Or.inl w
      · rw [if_neg w] at a3
        exact Or.inr (bars0.mp a3).1
  · rintro ⟨b1, b2, b3, b4, b5, b6, b7⟩
    refine ⟨⟨⟨b3, b2, ?_⟩, fun i hi => ⟨fun e => b1 ⟨i, hi, e⟩, fun z => b5 ⟨⟨i, hi, z.1⟩, q2.mp z.2⟩⟩⟩, b7⟩
    by_cases w : k = 0
    · rw [if_pos w]
      exact q1.mpr (b4.mp w)
    · rw [if_neg w]
      exact bars0.mpr ⟨b6.resolve_left w, hp.rec _ (by omega), b2, hp.foot _ (by omega), fun z => w (b4.mpr (q1.mp z)), fun z => b5 ⟨⟨k - 1, by omega, z.1⟩, q2.mp z.2⟩⟩
/-- the system's cells as the search has them: k parts r so far, the best s -/
def LW (n T : Nat) (hd wt : Int32) (k : Nat) (r : Nat → Nat) (s : GS) (u : MS) : Prop :=
  (u.1 12 = nI n ∧ u.1 15 = hd ∧ u.1 16 = wt ∧ u.1 18 = nI T) ∧ (u.1 17 = nI s.1 ∧ u.1 19 = 0 ∧ u.1 21 = nI s.2.1 ∧ (¬ s.2.1 = 0 → u.1 22 = s.2.2.1 ∧ u.1 23 = s.2.2.2.1)) ∧
  (∀ p, p < 16 → (u.1 14 >>> (nI p &&& 31)) &&& 1 = bI (∃ i, i < k ∧ r i = p)) ∧ (∀ i, i < k → u.2 13 i = nI (r i)) ∧ (∀ i, i < s.2.1 → u.2 20 i = nI (s.2.2.2.2 i)) ∧ s.2.1 ≤ 16 ∧ s.1 ≤ T
/-- what a search leaves alone -/
def FRL (u v : MS) : Prop := (∀ j, j ≠ 14 → j ≠ 17 → j ≠ 19 → j ≠ 21 → j ≠ 22 → j ≠ 23 → v.1 j = u.1 j) ∧ ∀ j, j ≠ 13 → j ≠ 20 → v.2 j = u.2 j
def LR (n T : Nat) (hd wt : Int32) (k : Nat) (r : Nat → Nat) : Option GS → MS → Prop
  | none, u => u.1 12 = nI n ∧ u.1 19 = 1 ∧ u.1 17 = nI T
  | some s, u => LW n T hd wt k r s u
set_option maxHeartbeats 400000 in
set_option maxRecDepth 100000 in
theorem metX0_mayCome (l : Launch) (G : va_G) (d : Nat → Nat) (a : Nat → Nat) (I : Nat → Int32) (F : Nat → Nat → Int32) (S : Nat → Nat → Option Nat) (lm : Int32 × Nat × Int32) (LP : List Nat) (fp : Nat → va_E) (P : Nat → Nat → Int32) (n T k : Nat) (hd wt : Int32) (r : Nat → Nat) (g : GS) (q : Nat) (kn hv cv : Int32) (hn16 : n ≤ 16) (hT : T ≤ 20000) (hLW : LW n T hd wt k r g (I, F)) (hpath : pathOK P n k r) (hpt : partsIn S P LP fp (a 0) n) (hcut : ∀ p, p < n → ¬ P 0 p = 4 → P 6 p = 0) (hk16 : k ≤ 16) (hq : q < n) (hkn : kn = bI (∃ i, i < k ∧ P 0 (r i) = 2)) (hhv : hv = hiV P r k) (hcv : cv = cuV P r k) : Met l yX0_mayCome (ws_ yX0_mayCome cX0_mayCome 9 (some FieldType.boolean)) ({ frames := 2, cells := 0, slots := 0, locals := 40 } : Room) (va_Pc [.ref (a 0), .int (nI q), .int (nI k), .int kn, .int hv, .int cv] (pRE G d (XW a I F S lm LP fp d) (KI))) (vp_Si (fun x => x = bI (mayM P hd wt r k q))) 0 0 (fun _ => False) := by
  refine Met.ofW (cc := cX0_mayCome) (maxL := 9) (ret := (some FieldType.boolean)) (by decide) rfl ?_
  intro p e s m args below meth c s₁ B hml hv
  obtain ⟨rfl, hP, hK, hE⟩ := hv
  have hI := hE
  have hx := B.exec
  have hb := B.bytes
  have hr := B.returns
  have hts := atoms_spec (ws := (ws_ yX0_mayCome cX0_mayCome 9 (some FieldType.boolean))) B.pre
  have hts : ∀ w ∈ lw_all, w.before _ s = true := fun w h => hts w (List.mem_cons_of_mem _ h)
  have hown : s.vm.findClass RX0 = some m.cls := findClass_of_methodNamed B.named
  have hlocks := B.notSynchronized
  have hl := lv_entry ([.ref (a 0), .int (nI q), .int (nI k), .int kn, .int hv, .int cv]) (n := 9) (Nat.le_of_ble_eq_true rfl)
  rw [lg_entry_eq]
  generalize (lg_sl ([.ref (a 0), .int (nI q), .int (nI k), .int kn, .int hv, .int cv]) ++ List.replicate (9 - (lg_sl ([.ref (a 0), .int (nI q), .int (nI k), .int kn, .int hv, .int cv])).length) Slot.unset).toArray = ls at hl ⊢
  have hl : lv_has ls 9 [(0, .ref (a 0)), (1, .int (nI q)), (2, .int (nI k)), (3, .int kn), (4, .int hv), (5, .int cv)] := hl
  obtain ⟨yz_1, kz_1, hSz_1, hyz_1, hkz_1, hk0z_1, h7z_1, hfz_1⟩ := hpt q (by omega)
  have hmi := may_iff (hd := hd) (wt := wt) hpath hk0z_1 (by omega) (hcut q hq) hhv hcv
  have hused := hLW.2.2.1 q (by omega)
  refine lv_aload_n hx hb dX0_mayCome_0 rfl (lv_at hl 0 rfl) ?_
  refine va_get (D := G) (ci := 0) (v := .ref (a 11)) (C := RX0) (T := TX0) (N := 29) hx hb hts in_X0 hown hK hP 0 rfl rfl 11 (Nat.le_of_ble_eq_true rfl) (hts _ q118) (fun _ h9 => h9) rfl dX0_mayCome_1 ?_
  refine lv_iload_n hx hb dX0_mayCome_4 rfl (lv_at hl 1 rfl) ?_
  refine y_aldq (N := q) (f := S 11) hx hb hK hP 8 3 rfl rfl rfl (by omega) (by decide) dX0_mayCome_5 ?_
  refine y_topv (y := .ref yz_1) (by rw [hSz_1]; rfl) ?_
  refine lv_astore (lv' := [(6, .ref yz_1), (0, .ref (a 0)), (1, .int (nI q)), (2, .int (nI k)), (3, .int kn), (4, .int hv), (5, .int cv)]) hx hb dX0_mayCome_6 hl (Nat.le_of_ble_eq_true rfl) rfl (fun ls hl => ?_)
  refine lv_aload hx hb dX0_mayCome_8 (lv_at hl 0 rfl) ?_
  refine lv_astore (lv' := [(7, .ref yz_1), (6, .ref yz_1), (0, .ref (a 0)), (1, .int (nI q)), (2, .int (nI k)), (3, .int kn), (4, .int hv), (5, .int cv)]) hx hb dX0_mayCome_10 hl (Nat.le_of_ble_eq_true rfl) rfl (fun ls hl => ?_)
  refine lv_aload_n hx hb dX0_mayCome_12 rfl (lv_at hl 2 rfl) ?_
  refine va_get (D := G) (ci := 0) (v := .int (I 14)) (C := RX0) (T := TX0) (N := 29) hx hb hts in_X0 hown hK hP 0 rfl rfl 14 (Nat.le_of_ble_eq_true rfl) (hts _ q123) (fun _ h9 => h9) rfl dX0_mayCome_13 ?_
  refine lv_iload_n hx hb dX0_mayCome_16 rfl (lv_at hl 3 rfl) ?_
  refine lv_ishr hx hb dX0_mayCome_17 ?_
  refine lv_iconst (v := 1) hx hb dX0_mayCome_18 (by decide) ?_
  refine lv_iand hx hb dX0_mayCome_19 ?_
  refine lv_iconst (v := 1) hx hb dX0_mayCome_20 (by decide) ?_
  refine lv_icmp_eq (tgt := 83) hx hb dX0_mayCome_21 (by decide) (fun c_2 => ?_) (fun c_2 => ?_)
  · refine lv_iconst (v := 0) hx hb dX0_mayCome_83 (by decide) ?_
    exact W.zret (v := 0) hx hb hr rfl (fun t ht hW => ⟨0, rfl, by
        refine Eq.trans ?_ (bI_not hmi.symm)
        exact (bI_f (fun h => h.1 (bI_ne rfl (fun e => absurd (hused.symm.trans c_2 |>.symm.trans e) (by decide))))).symm, ht⟩) (fun q h => by cases h) dX0_mayCome_84
  · refine lv_aload hx hb dX0_mayCome_24 (lv_at hl 1 rfl) ?_
    refine y_getPt (a0 := a 0) (q := q) (k := kz_1) (P := P) (v := .int (P 7 q)) hx hb hts hown hK hP hyz_1 hkz_1 hfz_1 6 (Nat.le_of_ble_eq_true rfl) (hts _ q463) rfl dX0_mayCome_26 ?_
    refine lv_if_ne (tgt := 83) hx hb dX0_mayCome_29 (by decide) (fun c_3 => ?_) (fun c_3 => ?_)
    · refine lv_iconst (v := 0) hx hb dX0_mayCome_83 (by decide) ?_
      exact W.zret (v := 0) hx hb hr rfl (fun t ht hW => ⟨0, rfl, by
          refine Eq.trans ?_ (bI_not hmi.symm)
          exact (bI_f (fun h => c_3 h.2.1)).symm, ht⟩) (fun q h => by cases h) dX0_mayCome_84
    · refine lv_aload hx hb dX0_mayCome_32 (lv_at hl 1 rfl) ?_
      refine y_getPt (a0 := a 0) (q := q) (k := kz_1) (P := P) (v := .int (P 2 q)) hx hb hts hown hK hP hyz_1 hkz_1 hfz_1 2 (Nat.le_of_ble_eq_true rfl) (hts _ q446) rfl dX0_mayCome_34 ?_
      refine lv_aload_n hx hb dX0_mayCome_37 rfl (lv_at hl 2 rfl) ?_
      refine va_get (D := G) (ci := 0) (v := .int (I 16)) (C := RX0) (T := TX0) (N := 29) hx hb hts in_X0 hown hK hP 0 rfl rfl 16 (Nat.le_of_ble_eq_true rfl) (hts _ q125) (fun _ h9 => h9) rfl dX0_mayCome_38 ?_
      refine y_top (y := wt) hLW.1.2.2.1 ?_
      refine lv_icmp_lt (tgt := 83) hx hb dX0_mayCome_41 (by decide) (fun c_4 => ?_) (fun c_4 => ?_)
      · refine lv_iconst (v := 0) hx hb dX0_mayCome_83 (by decide) ?_
        exact W.zret (v := 0) hx hb hr rfl (fun t ht hW => ⟨0, rfl, by
            refine Eq.trans ?_ (bI_not hmi.symm)
            exact (bI_f (fun h => h.2.2.1 c_4)).symm, ht⟩) (fun q h => by cases h) dX0_mayCome_84
      · refine lv_iload_n hx hb dX0_mayCome_44 rfl (lv_at hl 4 rfl) ?_
        refine lv_if_ne (tgt := 52) hx hb dX0_mayCome_45 (by decide) (fun c_5 => ?_) (fun c_5 => ?_)
        · have c_5 : ¬ k = 0 := fun h => c_5 ((nI_eq (a := k) (b := 0) (by omega) (by omega)).mpr h)
          refine lv_iconst (v := 0) hx hb dX0_mayCome_52 (by decide) ?_
          refine lv_aload hx hb dX0_mayCome_53 (lv_at hl 1 rfl) ?_
          refine y_kind (a0 := a 0) (q := q) (k := kz_1) (P := P) ⟨hx, hb, hml, hown, hts⟩ hK hP hyz_1 hkz_1 hfz_1 q563 hl.1 (lv_room (Nat.le_of_ble_eq_true rfl)) dX0_mayCome_55 ⟨Nat.le_of_ble_eq_true rfl, Nat.le_of_ble_eq_true rfl⟩ (Nat.le_of_ble_eq_true rfl) (Nat.le_of_ble_eq_true rfl) ?_
          refine lv_iconst (v := 1) hx hb dX0_mayCome_58 (by decide) ?_
          refine lv_icmp_ne (tgt := 66) hx hb dX0_mayCome_59 (by decide) (fun c_6 => ?_) (fun c_6 => ?_)
          · have c_6 : ¬ kz_1 = 1 := fun h => c_6 ((nI_eq (a := kz_1) (b := 1) (by omega) (by omega)).mpr h)
            refine lv_iconst (v := 0) hx hb dX0_mayCome_66 (by decide) ?_
            refine lv_icmp_ne (tgt := 83) hx hb dX0_mayCome_67 (by decide) (fun c_7 => ?_) (fun c_7 => ?_)
            · exact absurd c_7 (by decide)
            · have c_7 : 0 = 0 := (nI_eq (a := 0) (b := 0) (by omega) (by omega)).mp c_7
              refine lv_iload_n hx hb dX0_mayCome_70 rfl (lv_at hl 5 rfl) ?_
              refine lv_if_eq (tgt := 85) hx hb dX0_mayCome_71 (by decide) (fun c_8 => ?_) (fun c_8 => ?_)
              · have c_8 := bI_eq hkn c_8
                refine lv_iload_n hx hb dX0_mayCome_85 rfl (lv_at hl 4 rfl) ?_
                refine lv_if_eq (tgt := 113) hx hb dX0_mayCome_86 (by decide) (fun c_9 => ?_) (fun c_9 => ?_)
                · have c_9 : k = 0 := (nI_eq (a := k) (b := 0) (by omega) (by omega)).mp c_9
                  exact absurd c_9 c_5
                · have c_9 : ¬ k = 0 := fun h => c_9 ((nI_eq (a := k) (b := 0) (by omega) (by omega)).mpr h)
                  have hgk := hLW.2.2.2.1 (k - 1) (by omega)
                  have hrk := hpath.lt (k - 1) (by omega)
                  refine lv_aload_n hx hb dX0_mayCome_89 rfl (lv_at hl 2 rfl) ?_
                  refine va_get (D := G) (ci := 0) (v := .ref (a 11)) (C := RX0) (T := TX0) (N := 29) hx hb hts in_X0 hown hK hP 0 rfl rfl 11 (Nat.le_of_ble_eq_true rfl) (hts _ q118) (fun _ h9 => h9) rfl dX0_mayCome_90 ?_
                  refine lv_aload_n hx hb dX0_mayCome_93 rfl (lv_at hl 2 rfl) ?_
                  refine va_get (D := G) (ci := 0) (v := .ref (a 13)) (C := RX0) (T := TX0) (N := 29) hx hb hts in_X0 hown hK hP 0 rfl rfl 13 (Nat.le_of_ble_eq_true rfl) (hts _ q122) (fun _ h9 => h9) rfl dX0_mayCome_94 ?_
                  refine lv_iload_n hx hb dX0_mayCome_97 rfl (lv_at hl 4 rfl) ?_
                  refine lv_iconst (v := 1) hx hb dX0_mayCome_98 (by decide) ?_
                  refine lv_isub hx hb dX0_mayCome_99 ?_
                  refine y_top (y := nI (k - 1)) (pk_sub (a := k) (b := 1) (by omega)) ?_
                  refine y_iald (N := k - 1) (f := F 13) hx hb hK hP 9 0 rfl rfl rfl (by omega) (by decide) dX0_mayCome_100 ?_
                  refine y_top (y := nI (r (k - 1))) hgk ?_
                  obtain ⟨yz_10, kz_10, hSz_10, hyz_10, hkz_10, hk0z_10, h7z_10, hfz_10⟩ := hpt (r (k - 1)) (by omega)
                  refine y_aldq (N := r (k - 1)) (f := S 11) hx hb hK hP 8 3 rfl rfl rfl (by omega) (by decide) dX0_mayCome_101 ?_
                  refine y_topv (y := .ref yz_10) (by rw [hSz_10]; rfl) ?_
                  refine y_getPt (a0 := a 0) (q := r (k - 1)) (k := kz_10) (P := P) (v := .int (P 5 (r (k - 1)))) hx hb hts hown hK hP hyz_10 hkz_10 hfz_10 5 (Nat.le_of_ble_eq_true rfl) (hts _ q460) rfl dX0_mayCome_102 ?_
                  refine lv_aload hx hb dX0_mayCome_105 (lv_at hl 1 rfl) ?_
                  refine y_getPt (a0 := a 0) (q := q) (k := kz_1) (P := P) (v := .int (P 4 q)) hx hb hts hown hK hP hyz_1 hkz_1 hfz_1 4 (Nat.le_of_ble_eq_true rfl) (hts _ q455) rfl dX0_mayCome_107 ?_
                  refine lv_icmp_ne (tgt := 117) hx hb dX0_mayCome_110 (by decide) (fun c_11 => ?_) (fun c_11 => ?_)
                  · refine lv_iconst (v := 0) hx hb dX0_mayCome_117 (by decide) ?_
                    refine lv_istore (lv' := [(8, .int 0), (7, .ref yz_1), (6, .ref yz_1), (0, .ref (a 0)), (1, .int (nI q)), (2, .int (nI k)), (3, .int kn), (4, .int hv), (5, .int cv)]) hx hb dX0_mayCome_118 hl (Nat.le_of_ble_eq_true rfl) rfl (fun ls hl => ?_)
                    refine lv_iload hx hb dX0_mayCome_120 (lv_at hl 0 rfl) ?_
                    refine lv_if_eq (tgt := 155) hx hb dX0_mayCome_122 (by decide) (fun c_12 => ?_) (fun c_12 => ?_)
                    · refine lv_iconst (v := 0) hx hb dX0_mayCome_155 (by decide) ?_
                      exact W.zret (v := 0) hx hb hr rfl (fun t ht hW => ⟨0, rfl, by
                          refine Eq.trans ?_ (bI_not hmi.symm)
                          exact (bI_f (fun h => h.2.2.2.2.2.1.elim c_9 c_11)).symm, ht⟩) (fun q h => by cases h) dX0_mayCome_156
                    · exact absurd c_12 (by decide)
                  · refine lv_iconst (v := 1) hx hb dX0_mayCome_113 (by decide) ?_
                    refine lv_goto (tgt := 118) hx hb dX0_mayCome_114 (by decide) ?_
                    refine lv_istore (lv' := [(8, .int 1), (7, .ref yz_1), (6, .ref yz_1), (0, .ref (a 0)), (1, .int (nI q)), (2, .int (nI k)), (3, .int kn), (4, .int hv), (5, .int cv)]) hx hb dX0_mayCome_118 hl (Nat.le_of_ble_eq_true rfl) rfl (fun ls hl => ?_)
                    refine lv_iload hx hb dX0_mayCome_120 (lv_at hl 0 rfl) ?_
                    refine lv_if_eq (tgt := 155) hx hb dX0_mayCome_122 (by decide) (fun c_13 => ?_) (fun c_13 => ?_)
                    · exact absurd c_13 (by decide)
                    · refine lv_iload hx hb dX0_mayCome_125 (lv_at hl 7 rfl) ?_
                      refine lv_aload hx hb dX0_mayCome_127 (lv_at hl 2 rfl) ?_
                      refine y_getPt (a0 := a 0) (q := q) (k := kz_1) (P := P) (v := .int (P 1 q)) hx hb hts hown hK hP hyz_1 hkz_1 hfz_1 1 (Nat.le_of_ble_eq_true rfl) (hts _ q444) rfl dX0_mayCome_129 ?_
                      refine lv_iadd hx hb dX0_mayCome_132 ?_
                      refine lv_iload hx hb dX0_mayCome_133 (lv_at hl 8 rfl) ?_
                      refine lv_isub hx hb dX0_mayCome_135 ?_
                      refine lv_aload hx hb dX0_mayCome_136 (lv_at hl 1 rfl) ?_
                      refine y_cut (a0 := a 0) (q := q) (k := kz_1) (P := P) hI ⟨hx, hb, hml, hown, hts⟩ hK hP hyz_1 hkz_1 hfz_1 q640 hl.1 (lv_room (Nat.le_of_ble_eq_true rfl)) dX0_mayCome_138 ⟨Nat.le_of_ble_eq_true rfl, Nat.le_of_ble_eq_true rfl⟩ (Nat.le_of_ble_eq_true rfl) (Nat.le_of_ble_eq_true rfl) ?_
                      refine lv_isub hx hb dX0_mayCome_143 ?_
                      refine lv_aload_n hx hb dX0_mayCome_144 rfl (lv_at hl 3 rfl) ?_
                      refine va_get (D := G) (ci := 0) (v := .int (I 15)) (C := RX0) (T := TX0) (N := 29) hx hb hts in_X0 hown hK hP 0 rfl rfl 15 (Nat.le_of_ble_eq_true rfl) (hts _ q124) (fun _ h9 => h9) rfl dX0_mayCome_145 ?_
                      refine y_top (y := hd) hLW.1.2.1 ?_
                      refine lv_icmp_gt (tgt := 155) hx hb dX0_mayCome_148 (by decide) (fun c_14 => ?_) (fun c_14 => ?_)
                      · refine lv_iconst (v := 0) hx hb dX0_mayCome_155 (by decide) ?_
                        exact W.zret (v := 0) hx hb hr rfl (fun t ht hW => ⟨0, rfl, by
                            refine Eq.trans ?_ (bI_not hmi.symm)
                            exact (bI_f (fun h => absurd c_14 (Int32.not_lt.mpr h.2.2.2.2.2.2))).symm, ht⟩) (fun q h => by cases h) dX0_mayCome_156
                      · refine lv_iconst (v := 1) hx hb dX0_mayCome_151 (by decide) ?_
                        refine lv_goto (tgt := 156) hx hb dX0_mayCome_152 (by decide) ?_
                        exact W.zret (v := 1) hx hb hr rfl (fun t ht hW => ⟨1, rfl, by
                            refine Eq.trans ?_ (bI_not hmi.symm)
                            exact (bI_t ⟨fun z => c_2 (hused.trans (bI_t z)), c_3, c_4, ⟨fun z => absurd z c_9, fun z => absurd z c_6⟩, (fun z => c_8 z.1), (Or.inr c_11), Int32.not_lt.mp c_14⟩).symm, ht⟩) (fun q h => by cases h) dX0_mayCome_156
              · have c_8 := bI_ne hkn c_8
                refine lv_aload hx hb dX0_mayCome_74 (lv_at hl 1 rfl) ?_
                refine y_kind (a0 := a 0) (q := q) (k := kz_1) (P := P) ⟨hx, hb, hml, hown, hts⟩ hK hP hyz_1 hkz_1 hfz_1 q563 hl.1 (lv_room (Nat.le_of_ble_eq_true rfl)) dX0_mayCome_76 ⟨Nat.le_of_ble_eq_true rfl, Nat.le_of_ble_eq_true rfl⟩ (Nat.le_of_ble_eq_true rfl) (Nat.le_of_ble_eq_true rfl) ?_
                refine lv_iconst (v := 2) hx hb dX0_mayCome_79 (by decide) ?_
                refine lv_icmp_ne (tgt := 85) hx hb dX0_mayCome_80 (by decide) (fun c_15 => ?_) (fun c_15 => ?_)
                · have c_15 : ¬ kz_1 = 2 := fun h => c_15 ((nI_eq (a := kz_1) (b := 2) (by omega) (by omega)).mpr h)
                  refine lv_iload_n hx hb dX0_mayCome_85 rfl (lv_at hl 4 rfl) ?_
                  refine lv_if_eq (tgt := 113) hx hb dX0_mayCome_86 (by decide) (fun c_16 => ?_) (fun c_16 => ?_)
                  · have c_16 : k = 0 := (nI_eq (a := k) (b := 0) (by omega) (by omega)).mp c_16
                    exact absurd c_16 c_5
                  · have c_16 : ¬ k = 0 := fun h => c_16 ((nI_eq (a := k) (b := 0) (by omega) (by omega)).mpr h)
                    have hgk := hLW.2.2.2.1 (k - 1) (by omega)
                    have hrk := hpath.lt (k - 1) (by omega)
                    refine lv_aload_n hx hb dX0_mayCome_89 rfl (lv_at hl 2 rfl) ?_
                    refine va_get (D := G) (ci := 0) (v := .ref (a 11)) (C := RX0) (T := TX0) (N := 29) hx hb hts in_X0 hown hK hP 0 rfl rfl 11 (Nat.le_of_ble_eq_true rfl) (hts _ q118) (fun _ h9 => h9) rfl dX0_mayCome_90 ?_
                    refine lv_aload_n hx hb dX0_mayCome_93 rfl (lv_at hl 2 rfl) ?_
                    refine va_get (D := G) (ci := 0) (v := .ref (a 13)) (C := RX0) (T := TX0) (N := 29) hx hb hts in_X0 hown hK hP 0 rfl rfl 13 (Nat.le_of_ble_eq_true rfl) (hts _ q122) (fun _ h9 => h9) rfl dX0_mayCome_94 ?_
                    refine lv_iload_n hx hb dX0_mayCome_97 rfl (lv_at hl 4 rfl) ?_
                    refine lv_iconst (v := 1) hx hb dX0_mayCome_98 (by decide) ?_
                    refine lv_isub hx hb dX0_mayCome_99 ?_
                    refine y_top (y := nI (k - 1)) (pk_sub (a := k) (b := 1) (by omega)) ?_
                    refine y_iald (N := k - 1) (f := F 13) hx hb hK hP 9 0 rfl rfl rfl (by omega) (by decide) dX0_mayCome_100 ?_
                    refine y_top (y := nI (r (k - 1))) hgk ?_
                    obtain ⟨yz_17, kz_17, hSz_17, hyz_17, hkz_17, hk0z_17, h7z_17, hfz_17⟩ := hpt (r (k - 1)) (by omega)
                    refine y_aldq (N := r (k - 1)) (f := S 11) hx hb hK hP 8 3 rfl rfl rfl (by omega) (by decide) dX0_mayCome_101 ?_
                    refine y_topv (y := .ref yz_17) (by rw [hSz_17]; rfl) ?_
                    refine y_getPt (a0 := a 0) (q := r (k - 1)) (k := kz_17) (P := P) (v := .int (P 5 (r (k - 1)))) hx hb hts hown hK hP hyz_17 hkz_17 hfz_17 5 (Nat.le_of_ble_eq_true rfl) (hts _ q460) rfl dX0_mayCome_102 ?_
                    refine lv_aload hx hb dX0_mayCome_105 (lv_at hl 1 rfl) ?_
                    refine y_getPt (a0 := a 0) (q := q) (k := kz_1) (P := P) (v := .int (P 4 q)) hx hb hts hown hK hP hyz_1 hkz_1 hfz_1 4 (Nat.le_of_ble_eq_true rfl) (hts _ q455) rfl dX0_mayCome_107 ?_
                    refine lv_icmp_ne (tgt := 117) hx hb dX0_mayCome_110 (by decide) (fun c_18 => ?_) (fun c_18 => ?_)
                    · refine lv_iconst (v := 0) hx hb dX0_mayCome_117 (by decide) ?_
                      refine lv_istore (lv' := [(8, .int 0), (7, .ref yz_1), (6, .ref yz_1), (0, .ref (a 0)), (1, .int (nI q)), (2, .int (nI k)), (3, .int kn), (4, .int hv), (5, .int cv)]) hx hb dX0_mayCome_118 hl (Nat.le_of_ble_eq_true rfl) rfl (fun ls hl => ?_)
                      refine lv_iload hx hb dX0_mayCome_120 (lv_at hl 0 rfl) ?_
                      refine lv_if_eq (tgt := 155) hx hb dX0_mayCome_122 (by decide) (fun c_19 => ?_) (fun c_19 => ?_)
                      · refine lv_iconst (v := 0) hx hb dX0_mayCome_155 (by decide) ?_
                        exact W.zret (v := 0) hx hb hr rfl (fun t ht hW => ⟨0, rfl, by
                            refine Eq.trans ?_ (bI_not hmi.symm)
                            exact (bI_f (fun h => h.2.2.2.2.2.1.elim c_16 c_18)).symm, ht⟩) (fun q h => by cases h) dX0_mayCome_156
                      · exact absurd c_19 (by decide)
                    · refine lv_iconst (v := 1) hx hb dX0_mayCome_113 (by decide) ?_
                      refine lv_goto (tgt := 118) hx hb dX0_mayCome_114 (by decide) ?_
                      refine lv_istore (lv' := [(8, .int 1), (7, .ref yz_1), (6, .ref yz_1), (0, .ref (a 0)), (1, .int (nI q)), (2, .int (nI k)), (3, .int kn), (4, .int hv), (5, .int cv)]) hx hb dX0_mayCome_118 hl (Nat.le_of_ble_eq_true rfl) rfl (fun ls hl => ?_)
                      refine lv_iload hx hb dX0_mayCome_120 (lv_at hl 0 rfl) ?_
                      refine lv_if_eq (tgt := 155) hx hb dX0_mayCome_122 (by decide) (fun c_20 => ?_) (fun c_20 => ?_)
                      · exact absurd c_20 (by decide)
                      · refine lv_iload hx hb dX0_mayCome_125 (lv_at hl 7 rfl) ?_
                        refine lv_aload hx hb dX0_mayCome_127 (lv_at hl 2 rfl) ?_
                        refine y_getPt (a0 := a 0) (q := q) (k := kz_1) (P := P) (v := .int (P 1 q)) hx hb hts hown hK hP hyz_1 hkz_1 hfz_1 1 (Nat.le_of_ble_eq_true rfl) (hts _ q444) rfl dX0_mayCome_129 ?_
                        refine lv_iadd hx hb dX0_mayCome_132 ?_
                        refine lv_iload hx hb dX0_mayCome_133 (lv_at hl 8 rfl) ?_
                        refine lv_isub hx hb dX0_mayCome_135 ?_
                        refine lv_aload hx hb dX0_mayCome_136 (lv_at hl 1 rfl) ?_
                        refine y_cut (a0 := a 0) (q := q) (k := kz_1) (P := P) hI ⟨hx, hb, hml, hown, hts⟩ hK hP hyz_1 hkz_1 hfz_1 q640 hl.1 (lv_room (Nat.le_of_ble_eq_true rfl)) dX0_mayCome_138 ⟨Nat.le_of_ble_eq_true rfl, Nat.le_of_ble_eq_true rfl⟩ (Nat.le_of_ble_eq_true rfl) (Nat.le_of_ble_eq_true rfl) ?_
                        refine lv_isub hx hb dX0_mayCome_143 ?_
                        refine lv_aload_n hx hb dX0_mayCome_144 rfl (lv_at hl 3 rfl) ?_
                        refine va_get (D := G) (ci := 0) (v := .int (I 15)) (C := RX0) (T := TX0) (N := 29) hx hb hts in_X0 hown hK hP 0 rfl rfl 15 (Nat.le_of_ble_eq_true rfl) (hts _ q124) (fun _ h9 => h9) rfl dX0_mayCome_145 ?_
                        refine y_top (y := hd) hLW.1.2.1 ?_
                        refine lv_icmp_gt (tgt := 155) hx hb dX0_mayCome_148 (by decide) (fun c_21 => ?_) (fun c_21 => ?_)
                        · refine lv_iconst (v := 0) hx hb dX0_mayCome_155 (by decide) ?_
                          exact W.zret (v := 0) hx hb hr rfl (fun t ht hW => ⟨0, rfl, by
                              refine Eq.trans ?_ (bI_not hmi.symm)
                              exact (bI_f (fun h => absurd c_21 (Int32.not_lt.mpr h.2.2.2.2.2.2))).symm, ht⟩) (fun q h => by cases h) dX0_mayCome_156
                        · refine lv_iconst (v := 1) hx hb dX0_mayCome_151 (by decide) ?_
                          refine lv_goto (tgt := 156) hx hb dX0_mayCome_152 (by decide) ?_
                          exact W.zret (v := 1) hx hb hr rfl (fun t ht hW => ⟨1, rfl, by
                              refine Eq.trans ?_ (bI_not hmi.symm)
                              exact (bI_t ⟨fun z => c_2 (hused.trans (bI_t z)), c_3, c_4, ⟨fun z => absurd z c_16, fun z => absurd z c_6⟩, (fun z => c_15 z.2), (Or.inr c_18), Int32.not_lt.mp c_21⟩).symm, ht⟩) (fun q h => by cases h) dX0_mayCome_156
                · have c_15 : kz_1 = 2 := (nI_eq (a := kz_1) (b := 2) (by omega) (by omega)).mp c_15
                  refine lv_iconst (v := 0) hx hb dX0_mayCome_83 (by decide) ?_
                  exact W.zret (v := 0) hx hb hr rfl (fun t ht hW => ⟨0, rfl, by
                      refine Eq.trans ?_ (bI_not hmi.symm)
                      exact (bI_f (fun h => h.2.2.2.2.1 ⟨c_8, c_15⟩)).symm, ht⟩) (fun q h => by cases h) dX0_mayCome_84
          · have c_6 : kz_1 = 1 := (nI_eq (a := kz_1) (b := 1) (by omega) (by omega)).mp c_6
            refine lv_iconst (v := 1) hx hb dX0_mayCome_62 (by decide) ?_
            refine lv_goto (tgt := 67) hx hb dX0_mayCome_63 (by decide) ?_
            refine lv_icmp_ne (tgt := 83) hx hb dX0_mayCome_67 (by decide) (fun c_22 => ?_) (fun c_22 => ?_)
            · have c_22 : ¬ 0 = 1 := fun h => c_22 ((nI_eq (a := 0) (b := 1) (by omega) (by omega)).mpr h)
              refine lv_iconst (v := 0) hx hb dX0_mayCome_83 (by decide) ?_
              exact W.zret (v := 0) hx hb hr rfl (fun t ht hW => ⟨0, rfl, by
                  refine Eq.trans ?_ (bI_not hmi.symm)
                  exact (bI_f (fun h => c_5 (h.2.2.2.1.mpr c_6))).symm, ht⟩) (fun q h => by cases h) dX0_mayCome_84
            · exact absurd c_22 (by decide)
        · have c_5 : k = 0 := (nI_eq (a := k) (b := 0) (by omega) (by omega)).mp c_5
          refine lv_iconst (v := 1) hx hb dX0_mayCome_48 (by decide) ?_
          refine lv_goto (tgt := 53) hx hb dX0_mayCome_49 (by decide) ?_
          refine lv_aload hx hb dX0_mayCome_53 (lv_at hl 1 rfl) ?_
          refine y_kind (a0 := a 0) (q := q) (k := kz_1) (P := P) ⟨hx, hb, hml, hown, hts⟩ hK hP hyz_1 hkz_1 hfz_1 q563 hl.1 (lv_room (Nat.le_of_ble_eq_true rfl)) dX0_mayCome_55 ⟨Nat.le_of_ble_eq_true rfl, Nat.le_of_ble_eq_true rfl⟩ (Nat.le_of_ble_eq_true rfl) (Nat.le_of_ble_eq_true rfl) ?_
          refine lv_iconst (v := 1) hx hb dX0_mayCome_58 (by decide) ?_
          refine lv_icmp_ne (tgt := 66) hx hb dX0_mayCome_59 (by decide) (fun c_23 => ?_) (fun c_23 => ?_)
          · have c_23 : ¬ kz_1 = 1 := fun h => c_23 ((nI_eq (a := kz_1) (b := 1) (by omega) (by omega)).mpr h)
            refine lv_iconst (v := 0) hx hb dX0_mayCome_66 (by decide) ?_
            refine lv_icmp_ne (tgt := 83) hx hb dX0_mayCome_67 (by decide) (fun c_24 => ?_) (fun c_24 => ?_)
            · have c_24 : ¬ 1 = 0 := fun h => c_24 ((nI_eq (a := 1) (b := 0) (by omega) (by omega)).mpr h)
              refine lv_iconst (v := 0) hx hb dX0_mayCome_83 (by decide) ?_
              exact W.zret (v := 0) hx hb hr rfl (fun t ht hW => ⟨0, rfl, by
                  refine Eq.trans ?_ (bI_not hmi.symm)
                  exact (bI_f (fun h => c_23 (h.2.2.2.1.mp c_5))).symm, ht⟩) (fun q h => by cases h) dX0_mayCome_84
            · exact absurd c_24 (by decide)
          · have c_23 : kz_1 = 1 := (nI_eq (a := kz_1) (b := 1) (by omega) (by omega)).mp c_23
            refine lv_iconst (v := 1) hx hb dX0_mayCome_62 (by decide) ?_
            refine lv_goto (tgt := 67) hx hb dX0_mayCome_63 (by decide) ?_
            refine lv_icmp_ne (tgt := 83) hx hb dX0_mayCome_67 (by decide) (fun c_25 => ?_) (fun c_25 => ?_)
            · exact absurd c_25 (by decide)
            · have c_25 : 1 = 1 := (nI_eq (a := 1) (b := 1) (by omega) (by omega)).mp c_25
              refine lv_iload_n hx hb dX0_mayCome_70 rfl (lv_at hl 5 rfl) ?_
              refine lv_if_eq (tgt := 85) hx hb dX0_mayCome_71 (by decide) (fun c_26 => ?_) (fun c_26 => ?_)
              · have c_26 := bI_eq hkn c_26
                refine lv_iload_n hx hb dX0_mayCome_85 rfl (lv_at hl 4 rfl) ?_
                refine lv_if_eq (tgt := 113) hx hb dX0_mayCome_86 (by decide) (fun c_27 => ?_) (fun c_27 => ?_)
                · have c_27 : k = 0 := (nI_eq (a := k) (b := 0) (by omega) (by omega)).mp c_27
                  refine lv_iconst (v := 1) hx hb dX0_mayCome_113 (by decide) ?_
                  refine lv_goto (tgt := 118) hx hb dX0_mayCome_114 (by decide) ?_
                  refine lv_istore (lv' := [(8, .int 1), (7, .ref yz_1), (6, .ref yz_1), (0, .ref (a 0)), (1, .int (nI q)), (2, .int (nI k)), (3, .int kn), (4, .int hv), (5, .int cv)]) hx hb dX0_mayCome_118 hl (Nat.le_of_ble_eq_true rfl) rfl (fun ls hl => ?_)
                  refine lv_iload hx hb dX0_mayCome_120 (lv_at hl 0 rfl) ?_
                  refine lv_if_eq (tgt := 155) hx hb dX0_mayCome_122 (by decide) (fun c_28 => ?_) (fun c_28 => ?_)
                  · exact absurd c_28 (by decide)
                  · refine lv_iload hx hb dX0_mayCome_125 (lv_at hl 7 rfl) ?_
                    refine lv_aload hx hb dX0_mayCome_127 (lv_at hl 2 rfl) ?_
                    refine y_getPt (a0 := a 0) (q := q) (k := kz_1) (P := P) (v := .int (P 1 q)) hx hb hts hown hK hP hyz_1 hkz_1 hfz_1 1 (Nat.le_of_ble_eq_true rfl) (hts _ q444) rfl dX0_mayCome_129 ?_
                    refine lv_iadd hx hb dX0_mayCome_132 ?_
                    refine lv_iload hx hb dX0_mayCome_133 (lv_at hl 8 rfl) ?_
                    refine lv_isub hx hb dX0_mayCome_135 ?_
                    refine lv_aload hx hb dX0_mayCome_136 (lv_at hl 1 rfl) ?_
                    refine y_cut (a0 := a 0) (q := q) (k := kz_1) (P := P) hI ⟨hx, hb, hml, hown, hts⟩ hK hP hyz_1 hkz_1 hfz_1 q640 hl.1 (lv_room (Nat.le_of_ble_eq_true rfl)) dX0_mayCome_138 ⟨Nat.le_of_ble_eq_true rfl, Nat.le_of_ble_eq_true rfl⟩ (Nat.le_of_ble_eq_true rfl) (Nat.le_of_ble_eq_true rfl) ?_
                    refine lv_isub hx hb dX0_mayCome_143 ?_
                    refine lv_aload_n hx hb dX0_mayCome_144 rfl (lv_at hl 3 rfl) ?_
                    refine va_get (D := G) (ci := 0) (v := .int (I 15)) (C := RX0) (T := TX0) (N := 29) hx hb hts in_X0 hown hK hP 0 rfl rfl 15 (Nat.le_of_ble_eq_true rfl) (hts _ q124) (fun _ h9 => h9) rfl dX0_mayCome_145 ?_
                    refine y_top (y := hd) hLW.1.2.1 ?_
                    refine lv_icmp_gt (tgt := 155) hx hb dX0_mayCome_148 (by decide) (fun c_29 => ?_) (fun c_29 => ?_)
                    · refine lv_iconst (v := 0) hx hb dX0_mayCome_155 (by decide) ?_
                      exact W.zret (v := 0) hx hb hr rfl (fun t ht hW => ⟨0, rfl, by
                          refine Eq.trans ?_ (bI_not hmi.symm)
                          exact (bI_f (fun h => absurd c_29 (Int32.not_lt.mpr h.2.2.2.2.2.2))).symm, ht⟩) (fun q h => by cases h) dX0_mayCome_156
                    · refine lv_iconst (v := 1) hx hb dX0_mayCome_151 (by decide) ?_
                      refine lv_goto (tgt := 156) hx hb dX0_mayCome_152 (by decide) ?_
                      exact W.zret (v := 1) hx hb hr rfl (fun t ht hW => ⟨1, rfl, by
                          refine Eq.trans ?_ (bI_not hmi.symm)
                          exact (bI_t ⟨fun z => c_2 (hused.trans (bI_t z)), c_3, c_4, ⟨fun _ => c_23, fun _ => c_27⟩, (fun z => c_26 z.1), (Or.inl c_27), Int32.not_lt.mp c_29⟩).symm, ht⟩) (fun q h => by cases h) dX0_mayCome_156
                · have c_27 : ¬ k = 0 := fun h => c_27 ((nI_eq (a := k) (b := 0) (by omega) (by omega)).mpr h)
                  exact absurd c_5 c_27
              · have c_26 := bI_ne hkn c_26
                refine lv_aload hx hb dX0_mayCome_74 (lv_at hl 1 rfl) ?_
                refine y_kind (a0 := a 0) (q := q) (k := kz_1) (P := P) ⟨hx, hb, hml, hown, hts⟩ hK hP hyz_1 hkz_1 hfz_1 q563 hl.1 (lv_room (Nat.le_of_ble_eq_true rfl)) dX0_mayCome_76 ⟨Nat.le_of_ble_eq_true rfl, Nat.le_of_ble_eq_true rfl⟩ (Nat.le_of_ble_eq_true rfl) (Nat.le_of_ble_eq_true rfl) ?_
                refine lv_iconst (v := 2) hx hb dX0_mayCome_79 (by decide) ?_
                refine lv_icmp_ne (tgt := 85) hx hb dX0_mayCome_80 (by decide) (fun c_30 => ?_) (fun c_30 => ?_)
                · have c_30 : ¬ kz_1 = 2 := fun h => c_30 ((nI_eq (a := kz_1) (b := 2) (by omega) (by omega)).mpr h)
                  refine lv_iload_n hx hb dX0_mayCome_85 rfl (lv_at hl 4 rfl) ?_
                  refine lv_if_eq (tgt := 113) hx hb dX0_mayCome_86 (by decide) (fun c_31 => ?_) (fun c_31 => ?_)
                  · have c_31 : k = 0 := (nI_eq (a := k) (b := 0) (by omega) (by omega)).mp c_31
                    refine lv_iconst (v := 1) hx hb dX0_mayCome_113 (by decide) ?_
                    refine lv_goto (tgt := 118) hx hb dX0_mayCome_114 (by decide) ?_
                    refine lv_istore (lv' := [(8, .int 1), (7, .ref yz_1), (6, .ref yz_1), (0, .ref (a 0)), (1, .int (nI q)), (2, .int (nI k)), (3, .int kn), (4, .int hv), (5, .int cv)]) hx hb dX0_mayCome_118 hl (Nat.le_of_ble_eq_true rfl) rfl (fun ls hl => ?_)
                    refine lv_iload hx hb dX0_mayCome_120 (lv_at hl 0 rfl) ?_
                    refine lv_if_eq (tgt := 155) hx hb dX0_mayCome_122 (by decide) (fun c_32 => ?_) (fun c_32 => ?_)
                    · exact absurd c_32 (by decide)
                    · refine lv_iload hx hb dX0_mayCome_125 (lv_at hl 7 rfl) ?_
                      refine lv_aload hx hb dX0_mayCome_127 (lv_at hl 2 rfl) ?_
                      refine y_getPt (a0 := a 0) (q := q) (k := kz_1) (P := P) (v := .int (P 1 q)) hx hb hts hown hK hP hyz_1 hkz_1 hfz_1 1 (Nat.le_of_ble_eq_true rfl) (hts _ q444) rfl dX0_mayCome_129 ?_
                      refine lv_iadd hx hb dX0_mayCome_132 ?_
                      refine lv_iload hx hb dX0_mayCome_133 (lv_at hl 8 rfl) ?_
                      refine lv_isub hx hb dX0_mayCome_135 ?_
                      refine lv_aload hx hb dX0_mayCome_136 (lv_at hl 1 rfl) ?_
                      refine y_cut (a0 := a 0) (q := q) (k := kz_1) (P := P) hI ⟨hx, hb, hml, hown, hts⟩ hK hP hyz_1 hkz_1 hfz_1 q640 hl.1 (lv_room (Nat.le_of_ble_eq_true rfl)) dX0_mayCome_138 ⟨Nat.le_of_ble_eq_true rfl, Nat.le_of_ble_eq_true rfl⟩ (Nat.le_of_ble_eq_true rfl) (Nat.le_of_ble_eq_true rfl) ?_
                      refine lv_isub hx hb dX0_mayCome_143 ?_
                      refine lv_aload_n hx hb dX0_mayCome_144 rfl (lv_at hl 3 rfl) ?_
                      refine va_get (D := G) (ci := 0) (v := .int (I 15)) (C := RX0) (T := TX0) (N := 29) hx hb hts in_X0 hown hK hP 0 rfl rfl 15 (Nat.le_of_ble_eq_true rfl) (hts _ q124) (fun _ h9 => h9) rfl dX0_mayCome_145 ?_
                      refine y_top (y := hd) hLW.1.2.1 ?_
                      refine lv_icmp_gt (tgt := 155) hx hb dX0_mayCome_148 (by decide) (fun c_33 => ?_) (fun c_33 => ?_)
                      · refine lv_iconst (v := 0) hx hb dX0_mayCome_155 (by decide) ?_
                        exact W.zret (v := 0) hx hb hr rfl (fun t ht hW => ⟨0, rfl, by
                            refine Eq.trans ?_ (bI_not hmi.symm)
                            exact (bI_f (fun h => absurd c_33 (Int32.not_lt.mpr h.2.2.2.2.2.2))).symm, ht⟩) (fun q h => by cases h) dX0_mayCome_156
                      · refine lv_iconst (v := 1) hx hb dX0_mayCome_151 (by decide) ?_
                        refine lv_goto (tgt := 156) hx hb dX0_mayCome_152 (by decide) ?_
                        exact W.zret (v := 1) hx hb hr rfl (fun t ht hW => ⟨1, rfl, by
                            refine Eq.trans ?_ (bI_not hmi.symm)
                            exact (bI_t ⟨fun z => c_2 (hused.trans (bI_t z)), c_3, c_4, ⟨fun _ => c_23, fun _ => c_31⟩, (fun z => c_30 z.2), (Or.inl c_31), Int32.not_lt.mp c_33⟩).symm, ht⟩) (fun q h => by cases h) dX0_mayCome_156
                  · have c_31 : ¬ k = 0 := fun h => c_31 ((nI_eq (a := k) (b := 0) (by omega) (by omega)).mpr h)
                    exact absurd c_5 c_31
                · have c_30 : kz_1 = 2 := (nI_eq (a := kz_1) (b := 2) (by omega) (by omega)).mp c_30
                  refine lv_iconst (v := 0) hx hb dX0_mayCome_83 (by decide) ?_
                  exact W.zret (v := 0) hx hb hr rfl (fun t ht hW => ⟨0, rfl, by
                      refine Eq.trans ?_ (bI_not hmi.symm)
                      exact (bI_f (fun h => h.2.2.2.2.1 ⟨c_26, c_30⟩)).symm, ht⟩) (fun q h => by cases h) dX0_mayCome_84
