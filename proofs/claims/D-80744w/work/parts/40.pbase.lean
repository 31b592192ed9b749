/-! ===== parts: objects of five classes in the pool ===== -/
section PBASE
/-- a reader's start that asks more of the tables -/
abbrev pRE (G : va_G) (d : Nat → Nat) (ws : va_W) (ex : State → Prop) (U : State) : Prop := va_P G CLS ws U.heap ∧ va_K G CLS (TYS d) U ∧ ex U
theorem pRE_blind {G : va_G} {d : Nat → Nat} {ws : va_W} {av : List Value} {ex : State → Prop} (hm : ∀ u U : State, u.vm.Alike U.vm → ex u → ex U) : FrameBlind (va_Pc av (pRE G d ws ex)) := fun a U g mk q => by
  obtain ⟨q0, qP, qK, qE⟩ := q
  exact ⟨q0, qP, va_K.moved (u := U) (U := U.calling g mk a) (Vm.Alike.refl U.vm) qK, hm U (U.calling g mk a) (Vm.Alike.refl U.vm) qE⟩
theorem lw4 {a b c d : Cond} (h1 : a ∈ lw_all) (h2 : b ∈ lw_all) (h3 : c ∈ lw_all) (h4 : d ∈ lw_all) : ∀ w ∈ [a, b, c, d], w ∈ lw_all := by
  intro w h
  simp only [List.mem_cons, List.not_mem_nil, or_false] at h
  rcases h with rfl | rfl | rfl | rfl <;> assumption
theorem lw5 {a b c d e : Cond} (h1 : a ∈ lw_all) (h2 : b ∈ lw_all) (h3 : c ∈ lw_all) (h4 : d ∈ lw_all) (h5 : e ∈ lw_all) : ∀ w ∈ [a, b, c, d, e], w ∈ lw_all := by
  intro w h
  simp only [List.mem_cons, List.not_mem_nil, or_false] at h
  rcases h with rfl | rfl | rfl | rfl | rfl <;> assumption
theorem lw6 {a b c d e f : Cond} (h1 : a ∈ lw_all) (h2 : b ∈ lw_all) (h3 : c ∈ lw_all) (h4 : d ∈ lw_all) (h5 : e ∈ lw_all) (h6 : f ∈ lw_all) : ∀ w ∈ [a, b, c, d, e, f], w ∈ lw_all := by
  intro w h
  simp only [List.mem_cons, List.not_mem_nil, or_false] at h
  rcases h with rfl | rfl | rfl | rfl | rfl | rfl <;> assumption
/-- the part p of kind k, as it stands in the heap: P field-by-number as the reference keeps it -/
abbrev ptF (a0 : Nat) (P : Nat → Nat → Int32) (p : Nat) : List Value := [.int (nI p), .int (P 1 p), .int (P 2 p), .int (P 3 p), .int (P 4 p), .int (P 5 p), .int (P 7 p), .ref a0]
abbrev ptT (a0 : Nat) (P : Nat → Nat → Int32) (p k : Nat) : List Value := if k = 0 then [] else if k = 4 then [.int (P 6 p), .ref a0] else [.ref a0]
abbrev partE (a0 : Nat) (P : Nat → Nat → Int32) (p k : Nat) : va_E := .inr (2 + k, ptF a0 P p ++ ptT a0 P p k)
abbrev partsIn (S : Nat → Nat → Option Nat) (P : Nat → Nat → Int32) (LP : List Nat) (fp : Nat → va_E) (a0 n : Nat) : Prop := ∀ p, p < n → ∃ y k, S 11 p = some y ∧ y ∈ LP ∧ k < 5 ∧ P 0 p = nI k ∧ (P 7 p = 0 ∨ P 7 p = 1) ∧ fp y = partE a0 P p k
theorem TX3e : ∀ j, j < 8 → TX3 j = TX2 j := by decide
theorem TX4e : ∀ j, j < 8 → TX4 j = TX2 j := by decide
theorem TX5e : ∀ j, j < 8 → TX5 j = TX2 j := by decide
theorem TX6e : ∀ j, j < 8 → TX6 j = TX2 j := by decide
theorem TX2o : ∀ j, j < 8 → (TX2 j).1 = "LimbMaker$Part" := by decide
theorem ptF_at {a0 : Nat} {P : Nat → Nat → Int32} {p k j : Nat} (h : j < 8) : (ptF a0 P p ++ ptT a0 P p k)[j]? = (ptF a0 P p)[j]? := List.getElem?_append_left h
/-- fields of one name, each final and of another class, lie apart too -/
abbrev nm2 (T : u_T) (N : Nat) : Prop := ∀ a, a < N → ∀ b, b < N → a ≠ b → (T a).2.1 ≠ (T b).2.1 ∨ ((T a).2.2.2 = true ∧ (T b).2.2.2 = true ∧ (T a).1 ≠ (T b).1)
theorem nm2X3 : nm2 TX3 9 := by decide +kernel
theorem nm2X4 : nm2 TX4 9 := by decide +kernel
theorem nm2X5 : nm2 TX5 9 := by decide +kernel
theorem nm2X6 : nm2 TX6 10 := by decide +kernel
theorem nm2X2 : nm2 TX2 8 := by decide +kernel
theorem name_found {vm : Vm} {nm : String} {c : ClassId} {k : Class} (h : vm.findClass nm = some c) (hk : vm.classes[c]? = some k) : k.name = nm := by
  obtain ⟨hlt, hp, -⟩ := Array.findIdx?_eq_some_iff_getElem.mp h
  have e : vm.classes[c] = k := by
    have q := hk
    simp [hlt] at q
    exact q
  rw [e] at hp
  simp only [Bool.and_eq_true, beq_iff_eq] at hp
  exact hp.1.1.1
theorem apart_own {args : Array Value} {s : State} {C O f d O' f' d' : String} (h : (Cond.laysFinal C O f d).before args s = true) (h' : (Cond.laysFinal C O' f' d').before args s = true)
    {cf kf fi fd cf' kf' fi' fd'} (hi : s.fieldFound? O f d = some (cf, kf, fi, fd)) (hi' : s.fieldFound? O' f' d' = some (cf', kf', fi', fd')) (hne : O ≠ O') : fd.slot ≠ fd'.slot := by
  obtain ⟨c, k, c1, k1, i1, x1, r1, -, r3, -, -, -, o1, -, d1, q1, n1, -⟩ := Cond.laysFinal_spec h
  obtain ⟨c', k', c2, k2, i2, x2, r1', -, r3', -, -, -, o2, -, d2, q2, n2, -⟩ := Cond.laysFinal_spec h'
  cases r1.symm.trans r1'
  cases hi.symm.trans r3
  cases hi'.symm.trans r3'
  intro e
  rw [e] at q1
  cases q1.symm.trans q2
  have e1 := name_found o1 (State.fieldFound?_spec hi).1
  have e2 := name_found o2 (State.fieldFound?_spec hi').1
  exact hne (e1.symm.trans (n1.symm.trans (n2.trans e2)))
section PROWS
variable {p : Program} {l : Launch} {e : Env} {R : Room} {s : State} {m : MethodId} {args : Array Value} {below : List Frame} {meth : Method} {c : Code} {H : Heap} {locs : List Loc} {cells slots : Nat} {Q : State → Prop}
variable {cc : ByteArray} {pc : Nat} {ls : Array Slot} {rest : List Value} {D : va_G} {A : Nat → Prop} {tys : List (ClassId × FieldType)} {H0 : Heap} {X ws : va_W} {L : List Nat} {f : Nat → va_E} {y : Nat}
/-- a part's field read -/
theorem y_getPt (hexec : p.tables.exec = Jvm.exec) (hb : c.code = cc) {own : String} {index : Nat} (hts : ∀ w ∈ lw_all, w.before args s = true) (hown : s.vm.findClass own = some m.cls) (hK : va_K D CLS tys s) (hP : va_P D CLS (X ++ va_pl L f) H) {a0 q k : Nat} {P : Nat → Nat → Int32} (hy : y ∈ L) (hk5 : k < 5) (hf : f y = partE a0 P q k) (j : Nat) (hj : j < 8) (hlink : (Cond.fieldLink own index "LimbMaker$Part" (TX2 j).2.1 (TX2 j).2.2.1).before args s = true) {v : Value} (hv : (ptF a0 P q)[j]? = some v) (hdg : decode cc pc = .ok (.getfield index, 3))
    (kk : W p l e R s m args below meth c H locs cells slots Q (F0 m (pc + 3) ls (v :: rest))) : W p l e R s m args below meth c H locs cells slots Q (F0 m pc ls (.ref y :: rest)) := by
  have hv2 : (ptF a0 P q ++ ptT a0 P q k)[j]? = some v := by rw [ptF_at hj]; exact hv
  have o := TX2o j hj
  rcases (by omega : k = 0 ∨ k = 1 ∨ k = 2 ∨ k = 3 ∨ k = 4) with rfl | rfl | rfl | rfl | rfl
  · exact y_getP (C := RX2) (T := TX2) (N := 8) hexec hb hts in_X2 hown hK hP hy hf rfl j (by omega) hlink (fun x h => by rw [o] at h; exact h) hv2 hdg kk
  · have e := TX3e j hj
    exact y_getP (C := RX3) (T := TX3) (N := 9) hexec hb hts in_X3 hown hK hP hy hf rfl j (by omega) (by rw [e]; exact hlink) (fun x h => by rw [e, o] at h; rw [e]; exact h) hv2 hdg kk
  · have e := TX4e j hj
    exact y_getP (C := RX4) (T := TX4) (N := 9) hexec hb hts in_X4 hown hK hP hy hf rfl j (by omega) (by rw [e]; exact hlink) (fun x h => by rw [e, o] at h; rw [e]; exact h) hv2 hdg kk
  · have e := TX5e j hj
    exact y_getP (C := RX5) (T := TX5) (N := 9) hexec hb hts in_X5 hown hK hP hy hf rfl j (by omega) (by rw [e]; exact hlink) (fun x h => by rw [e, o] at h; rw [e]; exact h) hv2 hdg kk
  · have e := TX6e j hj
    exact y_getP (C := RX6) (T := TX6) (N := 10) hexec hb hts in_X6 hown hK hP hy hf rfl j (by omega) (by rw [e]; exact hlink) (fun x h => by rw [e, o] at h; rw [e]; exact h) hv2 hdg kk
theorem ptF_set7 {a0 q k : Nat} {P : Nat → Nat → Int32} {v : Int32} : (ptF a0 P q ++ ptT a0 P q k).set 6 (.int v) = ptF a0 (va_up P 7 (upd (P 7) q v)) q ++ ptT a0 (va_up P 7 (upd (P 7) q v)) q k := by
  show [Value.int (nI q), .int (P 1 q), .int (P 2 q), .int (P 3 q), .int (P 4 q), .int (P 5 q), .int v, .ref a0] ++ ptT a0 P q k = _
  simp [va_up, upd, ptT]
theorem y_apart {Ts : List Cond} {C : String} {T : u_T} {N ci : Nat} {cl : List vw_C} (hts : ∀ w ∈ Ts, w.before args s = true) (hin : ∀ w ∈ u_ws C T N, w ∈ Ts) (ty : Nat → FieldType) (hty : ∀ k, k < N → parseFieldDescriptor (T k).2.2.1 = some (ty k)) (hnm : nm2 T N) (hK : va_K D cl tys s) (hc : cl[ci]? = some (C, T, N)) : ∀ x y, x < N → y < N → x ≠ y → (D.2 ci) x ≠ (D.2 ci) y := by
  intro x y hx hy hne
  obtain ⟨hS, -⟩ := hK.1 ci _ hc
  obtain ⟨_, _, _, fa, hia, ea⟩ := hS x hx
  obtain ⟨_, _, _, fb, hib, eb⟩ := hS y hy
  rw [← ea, ← eb]
  rcases hnm x hx y hy hne with q | ⟨q1, q2, q3⟩
  · refine u_apart (u_lays hts hin hx) (u_lays hts hin hy) hia hib ?_
    rw [(State.fieldFound?_type hia (hty x hx)).1, (State.fieldFound?_type hib (hty y hy)).1]
    exact q
  · have h1 := hts _ (hin _ (u_in_lay hx))
    have h2 := hts _ (hin _ (u_in_lay hy))
    unfold u_lay at h1 h2
    rw [if_pos q1] at h1
    rw [if_pos q2] at h2
    exact apart_own h1 h2 hia hib q3
/-- a field written, in a cell of the pool whose fields lie apart -/
theorem y_putA (hexec : p.tables.exec = Jvm.exec) (hb : c.code = cc) {own ref C : String} {T : u_T} {N ci index : Nat} (hts : ∀ w ∈ lw_all, w.before args s = true) (hin : ∀ w ∈ u_ws C T N, w ∈ lw_all) (hap : ∀ x y, x < N → y < N → x ≠ y → (D.2 ci) x ≠ (D.2 ci) y) (hown : s.vm.findClass own = some m.cls) (hK : va_K D CLS tys s) (hP : va_P D CLS (X ++ va_pl L f) H) (hD : va_D A (X ++ va_pl L f)) (hS0 : va_S A H0 H locs) {fs : List Value} (hy : y ∈ L) (hf : f y = .inr (ci, fs)) (hc : CLS[ci]? = some (C, T, N)) (k : Nat) (hk : k < N) (hlink : (Cond.fieldLink own index ref (T k).2.1 (T k).2.2.1).before args s = true) (hsame : ∀ x, s.fieldFound? (T k).1 (T k).2.1 (T k).2.2.1 = some x → s.fieldFound? ref (T k).2.1 (T k).2.2.1 = some x) (hfin : (T k).2.2.2 = false ∨ ((T k).2.2.2 = true ∧ meth.name = "<init>" ∧ (T k).1 = own)) {ty : FieldType} {v : Value} (hd : parseFieldDescriptor (T k).2.2.1 = some ty) (hn : narrow ty v = v) (hfit : fits ty v = true) (hl : k < fs.length) (hdg : decode cc pc = .ok (.putfield index, 3))
    (kk : ∀ (H1 : Heap) (locs1 : List Loc), va_P D CLS (X ++ va_pl L (va_up f y (.inr (ci, fs.set k v)))) H1 → va_D A (X ++ va_pl L (va_up f y (.inr (ci, fs.set k v)))) → va_S A H0 H1 locs1 → W p l e R s m args below meth c H1 locs1 cells slots Q (F0 m (pc + 3) ls rest)) : W p l e R s m args below meth c H locs cells slots Q (F0 m pc ls (v :: .ref y :: rest)) := by
  obtain ⟨k9, hk9⟩ := va_pl_get (X := X) (f := f) hy
  have hk8 := hk9
  rw [hf] at hk9
  obtain ⟨r, h1, cell, q1, q2, q3, q4⟩ := hP k9 _ hk9
  cases h1.symm.trans hc
  obtain ⟨hS, hfc, kC, hkC, hkind⟩ := hK.1 ci _ hc
  obtain ⟨cf, kf, fi, fd, hi, hsl⟩ := hS k hk
  have hlay := hts _ (hin _ (u_in_lay hk))
  unfold u_lay at hlay
  have hst := (u_facts hfc hkC (u_lays hts hin hk) hi).1
  have fin : ∀ H1 locs1, va_P D CLS ((X ++ va_pl L f).set k9 (y, .inr (ci, fs.set k v))) H1 → va_D A ((X ++ va_pl L f).set k9 (y, .inr (ci, fs.set k v))) → va_S A H0 H1 locs1 → W p l e R s m args below meth c H1 locs1 cells slots Q (F0 m (pc + 3) ls rest) := fun H1 locs1 a b z => by
    rw [va_pl_set hD hy hk8] at a b
    exact kk H1 locs1 a b z
  rcases hfin with hfin | ⟨hfin, hini, hdecl⟩
  · rw [if_neg (by rw [hfin]; decide)] at hlay
    have h6 := u_store hfc hkC hkind hlay hi hd hn hfit
    refine W.putK hexec hb (f := fd) ⟨hown, hlink, ⟨_, _, _, hsame _ hi⟩, hst⟩ (by rw [q2]; exact h6) q1 q3 (by rw [hsl]; exact k2_hasslot (q4 k hk)) rfl rfl hdg fun H' e1 e2 e3 => ?_
    rw [hsl] at e1 ⊢
    exact fin H' _ (hP.set hD hk9 ⟨_, hc, t_OB.to (V := updV (vp_V fs) k v) ⟨_, e1, q2, q3, t_set q4 hap hk v⟩ (fun j _ => vp_updV_set hl v j)⟩ e3) (hD.set hk9) (hS0.put e2 e3 (hD.2 k9 _ hk9))
  · rw [if_pos hfin] at hlay
    have hcf : m.cls = cf := by
      obtain ⟨_, _, c', _, _, _, -, -, hf', -, -, -, hown2, -⟩ := Cond.laysFinal_spec hlay
      have e1 : c' = cf := by have := hi.symm.trans hf'; simp at this; exact this.1.symm
      rw [hdecl] at hown2
      rw [← e1]; exact Option.some.inj (hown.symm.trans hown2)
    have h6 := u_fits hfc hkC hkind (Or.inr hlay) hi hd hn hfit
    refine W.putFinK hexec hb hown hlink (hsame _ hi) hst hcf hini (by rw [q2]; exact h6) q1 q3 (by rw [hsl]; exact k2_hasslot (q4 k hk)) rfl rfl hdg fun H' e1 e2 e3 => ?_
    rw [hsl] at e1 ⊢
    exact fin H' _ (hP.set hD hk9 ⟨_, hc, t_OB.to (V := updV (vp_V fs) k v) ⟨_, e1, q2, q3, t_set q4 hap hk v⟩ (fun j _ => vp_updV_set hl v j)⟩ e3) (hD.set hk9) (hS0.put e2 e3 (hD.2 k9 _ hk9))
/-- a part is recalled, or comes back -/
theorem y_putPt (hexec : p.tables.exec = Jvm.exec) (hb : c.code = cc) {own : String} {index : Nat} (hts : ∀ w ∈ lw_all, w.before args s = true) (hown : s.vm.findClass own = some m.cls) (hK : va_K D CLS tys s) (hP : va_P D CLS (X ++ va_pl L f) H) (hD : va_D A (X ++ va_pl L f)) (hS0 : va_S A H0 H locs) {a0 q k : Nat} {P : Nat → Nat → Int32} (hy : y ∈ L) (hk5 : k < 5) (hf : f y = partE a0 P q k) (hlink : (Cond.fieldLink own index "LimbMaker$Part" "isRecalled" "Z").before args s = true) {v : Int32} (hv : v = 0 ∨ v = 1) (hdg : decode cc pc = .ok (.putfield index, 3))
    (kk : ∀ (H1 : Heap) (locs1 : List Loc), va_P D CLS (X ++ va_pl L (va_up f y (partE a0 (va_up P 7 (upd (P 7) q v)) q k))) H1 → va_D A (X ++ va_pl L (va_up f y (partE a0 (va_up P 7 (upd (P 7) q v)) q k))) → va_S A H0 H1 locs1 → W p l e R s m args below meth c H1 locs1 cells slots Q (F0 m (pc + 3) ls rest)) : W p l e R s m args below meth c H locs cells slots Q (F0 m pc ls (.int v :: .ref y :: rest)) := by
  have hn := nar_01 hv
  have hl : 6 < (ptF a0 P q ++ ptT a0 P q k).length := by rw [List.length_append]; show 6 < 8 + _; omega
  have e9 : ∀ z, partE a0 (va_up P 7 (upd (P 7) q v)) q z = .inr (2 + z, (ptF a0 P q ++ ptT a0 P q z).set 6 (.int v)) := fun z => by rw [ptF_set7]
  rcases (by omega : k = 0 ∨ k = 1 ∨ k = 2 ∨ k = 3 ∨ k = 4) with rfl | rfl | rfl | rfl | rfl
  · exact y_putA (C := RX2) (T := TX2) (N := 8) (ty := .boolean) hexec hb hts in_X2 (y_apart hts in_X2 tyX2 tyX2_ok nm2X2 hK rfl) hown hK hP hD hS0 hy hf rfl 6 (by omega) hlink (fun x h => h) (Or.inl rfl) (by decide +kernel) hn (by rcases hv with rfl | rfl <;> rfl) hl hdg (fun H1 locs1 a b z => kk H1 locs1 (by rw [e9]; exact a) (by rw [e9]; exact b) z)
  · exact y_putA (C := RX3) (T := TX3) (N := 9) (ty := .boolean) hexec hb hts in_X3 (y_apart hts in_X3 tyX3 tyX3_ok nm2X3 hK rfl) hown hK hP hD hS0 hy hf rfl 6 (by omega) hlink (fun x h => h) (Or.inl rfl) (by decide +kernel) hn (by rcases hv with rfl | rfl <;> rfl) hl hdg (fun H1 locs1 a b z => kk H1 locs1 (by rw [e9]; exact a) (by rw [e9]; exact b) z)
  · exact y_putA (C := RX4) (T := TX4) (N := 9) (ty := .boolean) hexec hb hts in_X4 (y_apart hts in_X4 tyX4 tyX4_ok nm2X4 hK rfl) hown hK hP hD hS0 hy hf rfl 6 (by omega) hlink (fun x h => h) (Or.inl rfl) (by decide +kernel) hn (by rcases hv with rfl | rfl <;> rfl) hl hdg (fun H1 locs1 a b z => kk H1 locs1 (by rw [e9]; exact a) (by rw [e9]; exact b) z)
  · exact y_putA (C := RX5) (T := TX5) (N := 9) (ty := .boolean) hexec hb hts in_X5 (y_apart hts in_X5 tyX5 tyX5_ok nm2X5 hK rfl) hown hK hP hD hS0 hy hf rfl 6 (by omega) hlink (fun x h => h) (Or.inl rfl) (by decide +kernel) hn (by rcases hv with rfl | rfl <;> rfl) hl hdg (fun H1 locs1 a b z => kk H1 locs1 (by rw [e9]; exact a) (by rw [e9]; exact b) z)
  · exact y_putA (C := RX6) (T := TX6) (N := 10) (ty := .boolean) hexec hb hts in_X6 (y_apart hts in_X6 tyX6 tyX6_ok nm2X6 hK rfl) hown hK hP hD hS0 hy hf rfl 6 (by omega) hlink (fun x h => h) (Or.inl rfl) (by decide +kernel) hn (by rcases hv with rfl | rfl <;> rfl) hl hdg (fun H1 locs1 a b z => kk H1 locs1 (by rw [e9]; exact a) (by rw [e9]; exact b) z)
end PROWS
end PBASE
