/-! ===== calls of a part's methods ===== -/
section PB2
variable {p : Program} {l : Launch} {e : Env} {R : Room} {s : State} {m : MethodId} {args : Array Value} {below : List Frame} {meth : Method} {c : Code} {H : Heap} {locs : List Loc} {cells slots : Nat} {Q : State → Prop}
variable {cc : ByteArray} {pc nL : Nat} {ls : Array Slot} {rest : List Value} {G : va_G} {d : Nat → Nat} {A : Nat → Prop} {H0 : Heap} {X ws : va_W} {L : List Nat} {f : Nat → va_E} {y : Nat}
/-- what kind a part is of -/
theorem y_kind {own : String} {index : Nat} (S0 : CallFix p m c cc nL s args lw_all own) (hK : va_K G CLS (TYS d) s) (hP : va_P G CLS (X ++ va_pl L f) H) {a0 q k : Nat} {P : Nat → Nat → Int32} (hy : y ∈ L) (hk5 : k < 5) (hf : f y = partE a0 P q k) (hlk : Cond.methodLink own index yX2_kind ∈ lw_all) (hsize : ls.size = nL) (hW : 2 * (F0 m pc ls (.ref y :: rest)).monitorRoom + (rest.map fun v => v.category).sum ≤ 8) (hdg : decode cc pc = .ok (.invokevirtual index, 3)) (hR : 2 ≤ R.frames ∧ 40 ≤ R.locals) (hcl : cells + 0 ≤ R.cells) (hsl : slots + 0 ≤ R.slots)
    (kk : W p l e R s m args below meth c H locs cells slots Q (F0 m (pc + 3) ls (.int (nI k) :: rest))) : W p l e R s m args below meth c H locs cells slots Q (F0 m pc ls (.ref y :: rest)) := by
  have hP1 := pool_one hP hy hf
  have hts := S0.2.2.2.2
  obtain ⟨hR1, hR2⟩ := hR
  rcases (by omega : k = 0 ∨ k = 1 ∨ k = 2 ∨ k = 3 ∨ k = 4) with rfl | rfl | rfl | rfl | rfl
  · refine vp_callSi (va_Run.run (va_runU (C := RX2) (As := []) (rest := rest) (g := F0 m pc ls (.ref y :: rest)) S0 (metX2_kind l G d y [(y, .inr (2, ptF a0 P q ++ ptT a0 P q 0))]) (va_cwU (owner := RX2) 0 hts (lw_app (lw5 hlk q566 q565 q564 q50) (lw_meth q571)) rfl rfl rfl rfl (by decide +kernel) ⟨Nat.le_trans (Nat.le_of_ble_eq_true rfl) hR1, Nat.le_trans (Nat.le_of_ble_eq_true rfl) hR2⟩) ⟨pR_blind, va_recv hK hP1 (ci := 2) (q0 := 0) rfl rfl, fun U hU hW => ⟨rfl, by rw [hU]; exact hP1, va_K.moved hW.alike hK⟩⟩ rfl rfl hsize rfl hW hdg ⟨hcl, hsl⟩)) (fun r hr => ?_)
    rw [hr]
    exact kk
  · refine vp_callSi (va_Run.run (va_runU (C := RX3) (As := []) (rest := rest) (g := F0 m pc ls (.ref y :: rest)) S0 (metX3_kind l G d y (ptF a0 P q ++ ptT a0 P q 1)) (va_cwO (owner := RX2) 0 hts (lw_app (lw6 hlk q566 q564 q567 q568 q51) (lw_meth q569)) rfl rfl rfl q571 (by decide +kernel) ⟨Nat.le_trans (Nat.le_of_ble_eq_true rfl) hR1, Nat.le_trans (Nat.le_of_ble_eq_true rfl) hR2⟩) ⟨pR_blind, va_recv hK hP1 (ci := 3) (q0 := 0) rfl rfl, fun U hU hW => ⟨rfl, by rw [hU]; exact hP1, va_K.moved hW.alike hK⟩⟩ rfl rfl hsize rfl hW hdg ⟨hcl, hsl⟩)) (fun r hr => ?_)
    rw [hr]
    exact kk
  · refine vp_callSi (va_Run.run (va_runU (C := RX4) (As := []) (rest := rest) (g := F0 m pc ls (.ref y :: rest)) S0 (metX4_kind l G d y [(y, .inr (4, ptF a0 P q ++ ptT a0 P q 2))]) (va_cwO (owner := RX2) 0 hts (lw_app (lw6 hlk q566 q564 q575 q576 q52) (lw_meth q577)) rfl rfl rfl q571 (by decide +kernel) ⟨Nat.le_trans (Nat.le_of_ble_eq_true rfl) hR1, Nat.le_trans (Nat.le_of_ble_eq_true rfl) hR2⟩) ⟨pR_blind, va_recv hK hP1 (ci := 4) (q0 := 0) rfl rfl, fun U hU hW => ⟨rfl, by rw [hU]; exact hP1, va_K.moved hW.alike hK⟩⟩ rfl rfl hsize rfl hW hdg ⟨hcl, hsl⟩)) (fun r hr => ?_)
    rw [hr]
    exact kk
  · refine vp_callSi (va_Run.run (va_runU (C := RX5) (As := []) (rest := rest) (g := F0 m pc ls (.ref y :: rest)) S0 (metX5_kind l G d y [(y, .inr (5, ptF a0 P q ++ ptT a0 P q 3))]) (va_cwO (owner := RX2) 0 hts (lw_app (lw6 hlk q566 q564 q572 q573 q53) (lw_meth q574)) rfl rfl rfl q571 (by decide +kernel) ⟨Nat.le_trans (Nat.le_of_ble_eq_true rfl) hR1, Nat.le_trans (Nat.le_of_ble_eq_true rfl) hR2⟩) ⟨pR_blind, va_recv hK hP1 (ci := 5) (q0 := 0) rfl rfl, fun U hU hW => ⟨rfl, by rw [hU]; exact hP1, va_K.moved hW.alike hK⟩⟩ rfl rfl hsize rfl hW hdg ⟨hcl, hsl⟩)) (fun r hr => ?_)
    rw [hr]
    exact kk
  · refine vp_callSi (va_Run.run (va_runU (C := RX6) (As := []) (rest := rest) (g := F0 m pc ls (.ref y :: rest)) S0 (metX6_kind l G d y [(y, .inr (6, ptF a0 P q ++ ptT a0 P q 4))]) (va_cwO (owner := RX2) 0 hts (lw_app (lw6 hlk q566 q564 q578 q579 q54) (lw_meth q580)) rfl rfl rfl q571 (by decide +kernel) ⟨Nat.le_trans (Nat.le_of_ble_eq_true rfl) hR1, Nat.le_trans (Nat.le_of_ble_eq_true rfl) hR2⟩) ⟨pR_blind, va_recv hK hP1 (ci := 6) (q0 := 0) rfl rfl, fun U hU hW => ⟨rfl, by rw [hU]; exact hP1, va_K.moved hW.alike hK⟩⟩ rfl rfl hsize rfl hW hdg ⟨hcl, hsl⟩)) (fun r hr => ?_)
    rw [hr]
    exact kk
/-- what a call of an interface's default method asks of the tables -/
def va_Dw (C : String) (x y : MethodName) (U : State) : Prop := (Cond.declares x).before #[] U = true ∧ (Cond.interfaceMethod x.cls x.cls x.name x.desc).before #[] U = true ∧ (Cond.publicMethod y).before #[] U = true ∧ (Cond.landsInDefault C x y).before #[] U = true ∧ (Cond.castable C x.cls).before #[] U = true
theorem va_Dl {C : String} {x y : MethodName} (hx : x.cls ≠ "java/lang/invoke/MethodHandle" ∧ x.cls ≠ "java/lang/invoke/VarHandle") {u U : State} {A A' : Array Value} (hvm : u.vm.Alike U.vm) (h1 : (Cond.declares x).before #[] u = true) (h : (Cond.landsInDefault C x y).before A u = true) : (Cond.landsInDefault C x y).before A' U = true := by
  obtain ⟨r, meth, hn, -⟩ := Cond.declares_spec h1
  have h9 : (Cond.landsInDefault C x y).before A' (u.setVm U.vm) = true := (Cond.landsInDefault_setVm hvm (State.methodFound?_setVm_of_named hvm hn hx)).trans h
  exact h9
theorem va_Dw.moved {C : String} {x y : MethodName} (hx : x.cls ≠ "java/lang/invoke/MethodHandle" ∧ x.cls ≠ "java/lang/invoke/VarHandle") {u U : State} (hvm : u.vm.Alike U.vm) (h : va_Dw C x y u) : va_Dw C x y U := by
  obtain ⟨h1, h2, h3, h4, h5⟩ := h
  obtain ⟨r, meth, hn, -⟩ := Cond.declares_spec h1
  have tr : ∀ {c : Cond}, c.onTables = true → c.before #[] (u.setVm U.vm) = true → c.before #[] U = true := by
    intro c hc h
    have e := Cond.onTables_vm (A := #[]) (A' := #[]) (U := u) (U' := U) U.vm c hc
    have hU : U.setVm U.vm = U := rfl
    rw [hU] at e
    rw [← e]
    exact h
  exact ⟨tr rfl (by rw [Cond.declares_setVm hvm]; exact h1), tr rfl (by rw [Cond.interfaceMethod_setVm hvm (r := r) hn hx]; exact h2), tr rfl (by rw [Cond.publicMethod_setVm hvm]; exact h3), va_Dl hx hvm h1 h4, tr rfl (by rw [Cond.castable_setVm hvm]; exact h5)⟩
theorem y_runFD {x y : MethodName} {bytes : ByteArray} {maxL n index count : Nat} {ret : Option FieldType} {ws : List Cond} {rm : Room} {Pc : Array Value → State → Prop} {Qc : Array Value → State → Outcome → State → Prop} {free : Addr → Prop} {own C : String} {cC : ClassId} {b : Addr} {As rest : List Value} {g : JFrame}
    (hat : ClassAt s C cC) (S0 : CallFix p m c cc nL s args lw_all own) (hM : Met l y ws rm Pc Qc 0 0 free) (hT : GoodIn lw_all ws) (hcw : Cond.code y bytes maxL ret ∈ ws) (hrc : rm.cells = 0) (hrs : rm.slots = 0) (hR : rm.frames + 1 ≤ R.frames ∧ 8 + (maxL + 11) + rm.locals ≤ R.locals) (hlink : Cond.methodLink own index x ∈ lw_all) (hinst : Cond.instanceMethod y ∈ lw_all) (hini : Cond.initialized y.cls ∈ lw_all) (hF : va_Dw C x y s)
    (hx : x.cls ≠ "java/lang/invoke/MethodHandle" ∧ x.cls ≠ "java/lang/invoke/VarHandle") (hlen : (parseMethodDescriptor x.desc).map (fun d => d.parameters.length) = some n) (hp : PreV s H C b Pc As)
    (hg : g.method = m) (hn : As.length = n) (hsize : g.locals.size = nL) (hstack : g.stack = As.reverse ++ .ref b :: rest) (hW : 2 * g.monitorRoom + (rest.map fun v => v.category).sum ≤ 8) (hdg : decode cc g.pc = .ok (.invokeinterface index count, 5)) (hf : cells + 0 ≤ R.cells ∧ slots + 0 ≤ R.slots) :
    va_Run5 p l e R s m args below meth c H locs cells slots 0 0 g rest (Qc (Value.ref b :: As).toArray) (free) := by
  obtain ⟨hx0, hb, hml, ho, hts⟩ := S0
  have hK : Back l R p e below s args y 5 8 (PreOf R 0 0 Pc) (PostOf Qc 0 0 free) := back_of (bytes := bytes) (maxL := maxL) (ret := ret) hM hp.1 hrc hrs hR.1 hR.2 (pay_in hts hT) hcw (fun a' U hW => word_at hW (Or.inl (by first | rfl | simp [Cond.onTables, Cond.keeps, Cond.steady])) (hts _ hini))
  obtain ⟨-, ⟨cellB, hcB, hoB, hclB⟩, hPc⟩ := hp
  obtain ⟨hfc, kB, hkB, -⟩ := hat
  cases hfc.symm.trans hclB
  obtain ⟨f1, f2, f3, f4, f5⟩ := hF
  intro T hT2 X
  obtain ⟨v, vm₁, ⟨U', l2, c2, s2⟩, hW₁, X', ⟨g', mk, t, L, e1, e2, hq, h1, hL, h2, h3⟩, st⟩ := X.interfaceBackD hx0 ho (hts _ hlink) (va_any rfl f1) (va_any rfl f2) (va_Dl hx (Vm.Alike.refl _) f1 f4) (hts _ hinst) (va_any rfl f3) (va_any rfl f5) hx hK hclB hkB ⟨cellB, by rw [hT2]; exact hcB, rfl, hoB⟩ hg (hsize.trans hml.symm) (Steps.refl _) (argsL := As) (rest := rest) (fun sig h => by rw [h] at hlen; exact hn.trans (Option.some.inj hlen).symm) hstack hW (by rw [hb]; exact hdg)
    (fun vm₁ hW₁ => ⟨hf.1, hf.2, hPc (T.setVm vm₁) hT2 hW₁⟩)
  dsimp only [Pt.U, Pt.locs, Pt.cells, Pt.slots] at X' e1 e2 h1 h2 h3 st
  subst h1; subst h2; subst h3
  exact ⟨v, (T.setVm vm₁).calling g' mk (Value.ref b :: As).toArray, t, U', L, hT2, X', hL, e1, e2, hq, fun target h => st.trans h⟩
/-- what calls of 'cut' ask of the tables -/
def KI (U : State) : Prop := va_Fw RX6 yX9_cut yX6_cut U ∧ va_Dw RX2 yX9_cut yX9_cut U ∧ va_Dw RX3 yX9_cut yX9_cut U ∧ va_Dw RX4 yX9_cut yX9_cut U ∧ va_Dw RX5 yX9_cut yX9_cut U
theorem KI.moved {u U : State} (hvm : u.vm.Alike U.vm) (h : KI u) : KI U := ⟨h.1.moved (by decide) hvm, h.2.1.moved (by decide) hvm, h.2.2.1.moved (by decide) hvm, h.2.2.2.1.moved (by decide) hvm, h.2.2.2.2.moved (by decide) hvm⟩
/-- by how much a part may be cut -/
abbrev cutV (P : Nat → Nat → Int32) (q k : Nat) : Int32 := if k = 4 then P 6 q else 0
theorem y_cut {own : String} {index count : Nat} (hI : KI s) (S0 : CallFix p m c cc nL s args lw_all own) (hK : va_K G CLS (TYS d) s) (hP : va_P G CLS (X ++ va_pl L f) H) {a0 q k : Nat} {P : Nat → Nat → Int32} (hy : y ∈ L) (hk5 : k < 5) (hf : f y = partE a0 P q k) (hlk : Cond.methodLink own index yX9_cut ∈ lw_all) (hsize : ls.size = nL) (hW : 2 * (F0 m pc ls (.ref y :: rest)).monitorRoom + (rest.map fun v => v.category).sum ≤ 8) (hdg : decode cc pc = .ok (.invokeinterface index count, 5)) (hR : 1 ≤ R.frames ∧ 20 ≤ R.locals) (hcl : cells + 0 ≤ R.cells) (hsl : slots + 0 ≤ R.slots)
    (kk : W p l e R s m args below meth c H locs cells slots Q (F0 m (pc + 5) ls (.int (cutV P q k) :: rest))) : W p l e R s m args below meth c H locs cells slots Q (F0 m pc ls (.ref y :: rest)) := by
  have hP1 := pool_one hP hy hf
  have hts := S0.2.2.2.2
  obtain ⟨hR1, hR2⟩ := hR
  obtain ⟨i6, i2, i3, i4, i5⟩ := hI
  rcases (by omega : k = 0 ∨ k = 1 ∨ k = 2 ∨ k = 3 ∨ k = 4) with rfl | rfl | rfl | rfl | rfl
  · refine va_csFi (y_runFD (C := RX2) (y := yX9_cut) (As := []) (rest := rest) (g := F0 m pc ls (.ref y :: rest)) ((hK.1 2 _ rfl).2) S0 (metX9_cut l G d y [(y, .inr (2, ptF a0 P q ++ ptT a0 P q 0))]) (lw_meth q647) List.mem_cons_self rfl rfl ⟨Nat.le_trans (Nat.le_of_ble_eq_true rfl) hR1, Nat.le_trans (Nat.le_of_ble_eq_true rfl) hR2⟩ hlk q645 q1201 i2 (by decide) (by decide +kernel) ⟨pR_blind, va_recv hK hP1 (ci := 2) (q0 := 0) rfl rfl, fun U hU hW => ⟨rfl, by rw [hU]; exact hP1, va_K.moved hW.alike hK⟩⟩ rfl rfl hsize rfl hW hdg ⟨hcl, hsl⟩) (fun r hr => ?_)
    rw [hr]
    exact kk
  · refine va_csFi (y_runFD (C := RX3) (y := yX9_cut) (As := []) (rest := rest) (g := F0 m pc ls (.ref y :: rest)) ((hK.1 3 _ rfl).2) S0 (metX9_cut l G d y [(y, .inr (3, ptF a0 P q ++ ptT a0 P q 1))]) (lw_meth q647) List.mem_cons_self rfl rfl ⟨Nat.le_trans (Nat.le_of_ble_eq_true rfl) hR1, Nat.le_trans (Nat.le_of_ble_eq_true rfl) hR2⟩ hlk q645 q1201 i3 (by decide) (by decide +kernel) ⟨pR_blind, va_recv hK hP1 (ci := 3) (q0 := 0) rfl rfl, fun U hU hW => ⟨rfl, by rw [hU]; exact hP1, va_K.moved hW.alike hK⟩⟩ rfl rfl hsize rfl hW hdg ⟨hcl, hsl⟩) (fun r hr => ?_)
    rw [hr]
    exact kk
  · refine va_csFi (y_runFD (C := RX4) (y := yX9_cut) (As := []) (rest := rest) (g := F0 m pc ls (.ref y :: rest)) ((hK.1 4 _ rfl).2) S0 (metX9_cut l G d y [(y, .inr (4, ptF a0 P q ++ ptT a0 P q 2))]) (lw_meth q647) List.mem_cons_self rfl rfl ⟨Nat.le_trans (Nat.le_of_ble_eq_true rfl) hR1, Nat.le_trans (Nat.le_of_ble_eq_true rfl) hR2⟩ hlk q645 q1201 i4 (by decide) (by decide +kernel) ⟨pR_blind, va_recv hK hP1 (ci := 4) (q0 := 0) rfl rfl, fun U hU hW => ⟨rfl, by rw [hU]; exact hP1, va_K.moved hW.alike hK⟩⟩ rfl rfl hsize rfl hW hdg ⟨hcl, hsl⟩) (fun r hr => ?_)
    rw [hr]
    exact kk
  · refine va_csFi (y_runFD (C := RX5) (y := yX9_cut) (As := []) (rest := rest) (g := F0 m pc ls (.ref y :: rest)) ((hK.1 5 _ rfl).2) S0 (metX9_cut l G d y [(y, .inr (5, ptF a0 P q ++ ptT a0 P q 3))]) (lw_meth q647) List.mem_cons_self rfl rfl ⟨Nat.le_trans (Nat.le_of_ble_eq_true rfl) hR1, Nat.le_trans (Nat.le_of_ble_eq_true rfl) hR2⟩ hlk q645 q1201 i5 (by decide) (by decide +kernel) ⟨pR_blind, va_recv hK hP1 (ci := 5) (q0 := 0) rfl rfl, fun U hU hW => ⟨rfl, by rw [hU]; exact hP1, va_K.moved hW.alike hK⟩⟩ rfl rfl hsize rfl hW hdg ⟨hcl, hsl⟩) (fun r hr => ?_)
    rw [hr]
    exact kk
  · refine va_csFi (va_runF (C := RX6) (As := []) (rest := rest) (g := F0 m pc ls (.ref y :: rest)) ((hK.1 6 _ rfl).2) S0 (metX6_cut l G d y a0 q P) (va_cwF 0 hts (lw_app (lw4 hlk q655 q616 q54) (lw_meth q618)) rfl rfl rfl i6 (by decide +kernel) ⟨Nat.le_trans (Nat.le_of_ble_eq_true rfl) hR1, Nat.le_trans (Nat.le_of_ble_eq_true rfl) hR2⟩) ⟨pR_blind, va_recv hK hP1 (ci := 6) (q0 := 0) rfl rfl, fun U hU hW => ⟨rfl, by rw [hU]; exact hP1, va_K.moved hW.alike hK⟩⟩ rfl rfl hsize rfl hW hdg ⟨hcl, hsl⟩) (fun r hr => ?_)
    rw [hr]
    exact kk
end PB2
