/-! ===== the system's cells: fifteen at fixed places, the rest in a pool ===== -/
section XBASE
abbrev XF (a : Nat → Nat) (I : Nat → Int32) : List Value := [.int (I 0), .ref (a 1), .int (I 2), .ref (a 3), .int (I 4), .ref (a 5), .ref (a 6), .ref (a 7), .ref (a 8), .int (I 9), .ref (a 10), .ref (a 11), .int (I 12), .ref (a 13), .int (I 14), .int (I 15), .int (I 16), .int (I 17), .int (I 18), .int (I 19), .ref (a 20), .int (I 21), .int (I 22), .int (I 23), .int (I 24), .ref (a 25), .ref (a 26), .ref (a 27), .ref (a 28)]
abbrev XC (a : Nat → Nat) (I : Nat → Int32) (F : Nat → Nat → Int32) (S : Nat → Nat → Option Nat) (m : Int32 × Nat × Int32) (d : Nat → Nat) : va_W := [(a 0, .inr (0, XF a I)), (a 1, .inl (d 0, 6, .inl (F 1))), (a 3, .inl (d 2, 4, .inr (.inr (.inr (.inr (S 3)))))), (a 5, .inl (d 0, 12, .inl (F 5))), (a 6, .inl (d 0, 12, .inl (F 6))), (a 7, .inl (d 0, 12, .inl (F 7))), (a 8, .inl (d 0, 12, .inl (F 8))), (a 10, .inl (d 0, 8, .inl (F 10))), (a 11, .inl (d 3, 16, .inr (.inr (.inr (.inr (S 11)))))), (a 13, .inl (d 0, 16, .inl (F 13))), (a 20, .inl (d 0, 16, .inl (F 20))), (a 25, .inr (9, [.int m.1, .ref m.2.1, .int m.2.2])), (a 26, .inl (d 0, 3, .inl (F 26))), (a 27, .inl (d 0, 80, .inl (F 27))), (a 28, .inl (d 0, 2, .inl (F 28)))]
/-- the state: ints, int arrays, arrays of references, the list (modCount, its array, size), the pool's addresses and what they hold -/
abbrev XS : Type := (Nat → Int32) × (Nat → Nat → Int32) × (Nat → Nat → Option Nat) × (Int32 × Nat × Int32) × List Nat × (Nat → va_E)
abbrev XW (a : Nat → Nat) (I : Nat → Int32) (F : Nat → Nat → Int32) (S : Nat → Nat → Option Nat) (m : Int32 × Nat × Int32) (L : List Nat) (f : Nat → va_E) (d : Nat → Nat) : va_W := XC a I F S m d ++ va_pl L f
/-- a finding is met -/
def xFind (u : XS) (f : Nat) : XS := ((uFind (u.1, u.2.1) f).1, (uFind (u.1, u.2.1) f).2, u.2.2)
theorem pool_one {D : va_G} {cl : List vw_C} {X : va_W} {L : List Nat} {f : Nat → va_E} {H : Heap} {y : Nat} {e : va_E} (hP : va_P D cl (X ++ va_pl L f) H) (hy : y ∈ L) (hf : f y = e) : va_P D cl [(y, e)] H := by
  obtain ⟨k, hk⟩ := va_pl_get (X := X) (f := f) hy
  rw [hf] at hk
  intro j q hj
  match j, hj with
  | 0, hj => cases hj; exact hP k _ hk
  | j + 1, hj => simp at hj
section XROWS
variable {p : Program} {l : Launch} {e : Env} {R : Room} {s : State} {m : MethodId} {args : Array Value} {below : List Frame} {meth : Method} {c : Code} {H : Heap} {locs : List Loc} {cells slots : Nat} {Q : State → Prop}
variable {cc : ByteArray} {pc : Nat} {ls : Array Slot} {rest : List Value} {D : va_G} {cl : List vw_C} {A : Nat → Prop} {tys : List (ClassId × FieldType)} {H0 : Heap} {X ws : va_W} {L : List Nat} {f : Nat → va_E} {y : Nat}
theorem y_ialdP (hexec : p.tables.exec = Jvm.exec) (hb : c.code = cc) (hK : va_K D cl tys s) (hP : va_P D cl (X ++ va_pl L f) H) (t0 : Nat) {cA : ClassId} {n : Nat} {g : Nat → Int32} (hy : y ∈ L) (hf : f y = .inl (cA, n, .inl g)) (ht : tys[t0]? = some (cA, .int)) {i : Int32} {N : Nat} (hi : i = nI N) (hN : N < n) (hn : n < 2 ^ 31) (hdg : decode cc pc = .ok (.iaload, 1))
    (kk : W p l e R s m args below meth c H locs cells slots Q (F0 m (pc + 1) ls (.int (g N) :: rest))) : W p l e R s m args below meth c H locs cells slots Q (F0 m pc ls (.int i :: .ref y :: rest)) := by
  obtain ⟨k9, hk9⟩ := va_pl_get (X := X) (f := f) hy
  rw [hf] at hk9
  exact y_iald hexec hb hK hP k9 t0 hk9 ht hi hN hn hdg kk
theorem y_iastP (hexec : p.tables.exec = Jvm.exec) (hb : c.code = cc) (hK : va_K D cl tys s) (hP : va_P D cl (X ++ va_pl L f) H) (hD : va_D A (X ++ va_pl L f)) (hS : va_S A H0 H locs) (t0 : Nat) {cA : ClassId} {n : Nat} {g : Nat → Int32} (hy : y ∈ L) (hf : f y = .inl (cA, n, .inl g)) (ht : tys[t0]? = some (cA, .int)) {i x : Int32} {N : Nat} (hi : i = nI N) (hN : N < n) (hn : n < 2 ^ 31) (hdg : decode cc pc = .ok (.iastore, 1))
    (kk : ∀ (H1 : Heap) (locs1 : List Loc), va_P D cl (X ++ va_pl L (va_up f y (.inl (cA, n, .inl (upd g N x))))) H1 → va_D A (X ++ va_pl L (va_up f y (.inl (cA, n, .inl (upd g N x))))) → va_S A H0 H1 locs1 → W p l e R s m args below meth c H1 locs1 cells slots Q (F0 m (pc + 1) ls rest)) : W p l e R s m args below meth c H locs cells slots Q (F0 m pc ls (.int x :: .int i :: .ref y :: rest)) := by
  obtain ⟨k9, hk9⟩ := va_pl_get (X := X) (f := f) hy
  have hk8 := hk9
  rw [hf] at hk9
  refine y_iast hexec hb hK hP hD hS k9 t0 hk9 ht hi hN hn hdg (fun H1 locs1 hP1 hD1 hS1 => ?_)
  rw [va_pl_set hD hy hk8] at hP1 hD1
  exact kk H1 locs1 hP1 hD1 hS1
theorem y_getP (hexec : p.tables.exec = Jvm.exec) (hb : c.code = cc) {own ref C : String} {T : u_T} {N ci index : Nat} {Ts : List Cond} (hts : ∀ w ∈ Ts, w.before args s = true) (hin : ∀ w ∈ u_ws C T N, w ∈ Ts) (hown : s.vm.findClass own = some m.cls) (hK : va_K D cl tys s) (hP : va_P D cl (X ++ va_pl L f) H) {fs : List Value} (hy : y ∈ L) (hf : f y = .inr (ci, fs)) (hc : cl[ci]? = some (C, T, N)) (k : Nat) (hk : k < N) (hlink : (Cond.fieldLink own index ref (T k).2.1 (T k).2.2.1).before args s = true) (hsame : ∀ x, s.fieldFound? (T k).1 (T k).2.1 (T k).2.2.1 = some x → s.fieldFound? ref (T k).2.1 (T k).2.2.1 = some x) {v : Value} (hv : fs[k]? = some v) (hdg : decode cc pc = .ok (.getfield index, 3))
    (kk : W p l e R s m args below meth c H locs cells slots Q (F0 m (pc + 3) ls (v :: rest))) : W p l e R s m args below meth c H locs cells slots Q (F0 m pc ls (.ref y :: rest)) := by
  obtain ⟨k9, hk9⟩ := va_pl_get (X := X) (f := f) hy
  rw [hf] at hk9
  exact va_get hexec hb hts hin hown hK hP k9 hk9 hc k hk hlink hsame hv hdg kk
theorem y_putP (hexec : p.tables.exec = Jvm.exec) (hb : c.code = cc) {own ref C : String} {T : u_T} {N ci index : Nat} {Ts : List Cond} (hts : ∀ w ∈ Ts, w.before args s = true) (hin : ∀ w ∈ u_ws C T N, w ∈ Ts) (ty0 : Nat → FieldType) (hty : ∀ k, k < N → parseFieldDescriptor (T k).2.2.1 = some (ty0 k)) (hnm : ∀ a, a < N → ∀ b, b < N → a ≠ b → (T a).2.1 ≠ (T b).2.1) (hown : s.vm.findClass own = some m.cls) (hK : va_K D cl tys s) (hP : va_P D cl (X ++ va_pl L f) H) (hD : va_D A (X ++ va_pl L f)) (hS0 : va_S A H0 H locs) {fs : List Value} (hy : y ∈ L) (hf : f y = .inr (ci, fs)) (hc : cl[ci]? = some (C, T, N)) (k : Nat) (hk : k < N) (hlink : (Cond.fieldLink own index ref (T k).2.1 (T k).2.2.1).before args s = true) (hsame : ∀ x, s.fieldFound? (T k).1 (T k).2.1 (T k).2.2.1 = some x → s.fieldFound? ref (T k).2.1 (T k).2.2.1 = some x) (hfin : (T k).2.2.2 = false) {ty : FieldType} {v : Value} (hd : parseFieldDescriptor (T k).2.2.1 = some ty) (hn : narrow ty v = v) (hfit : fits ty v = true) (hl : k < fs.length) (hdg : decode cc pc = .ok (.putfield index, 3))
    (kk : ∀ (H1 : Heap) (locs1 : List Loc), va_P D cl (X ++ va_pl L (va_up f y (.inr (ci, fs.set k v)))) H1 → va_D A (X ++ va_pl L (va_up f y (.inr (ci, fs.set k v)))) → va_S A H0 H1 locs1 → W p l e R s m args below meth c H1 locs1 cells slots Q (F0 m (pc + 3) ls rest)) : W p l e R s m args below meth c H locs cells slots Q (F0 m pc ls (v :: .ref y :: rest)) := by
  obtain ⟨k9, hk9⟩ := va_pl_get (X := X) (f := f) hy
  have hk8 := hk9
  rw [hf] at hk9
  refine va_put hexec hb hts hin ty0 hty hnm hown hK hP hD hS0 k9 hk9 hc k hk hlink hsame hfin hd hn hfit hl hdg (fun H1 locs1 hP1 hD1 hS1 => ?_)
  rw [va_pl_set hD hy hk8] at hP1 hD1
  exact kk H1 locs1 hP1 hD1 hS1
/-- two array classes of one primitive type are one -/
theorem va_K_int {cA cB : ClassId} {tys' : List (ClassId × FieldType)} (h : va_K D cl tys' s) {i j : Nat} (hi : tys'[i]? = some (cA, .int)) (hj : tys'[j]? = some (cB, .int)) : cA = cB := by
  have h1 : s.vm.findClass ("[" ++ FieldType.int.toString) = some cA := (h.2 i _ hi).2
  have h2 : s.vm.findClass ("[" ++ FieldType.int.toString) = some cB := (h.2 j _ hj).2
  exact Option.some.inj (h1.symm.trans h2)
theorem y_newiP (hexec : p.tables.exec = Jvm.exec) (hb : c.code = cc) (harr : (Cond.arrayClass .int).before args s = true) {d : Nat → Nat} (hK : va_K D cl (TYS d) s) (hP : va_P D cl (X ++ va_pl L f) H) (hD : va_D A (X ++ va_pl L f)) (hS : va_S A H0 H locs) (hA : ∀ q, H0.size ≤ q → A q)
    {n : Int32} {N' : Nat} (hn : ¬ n < 0) (hN : n.toNatClampNeg = N') (hbytes : N' * componentBytes .int ≤ 536870912) (hcells : cells + 1 ≤ R.cells) (hslots : slots + N' ≤ R.slots) (hdg : decode cc pc = .ok (.newarray .int, 2))
    (kk : ∀ (q : Nat) (H1 : Heap), q ∉ L → va_P D cl (X ++ va_pl (L ++ [q]) (va_up f q (.inl (d 0, N', .inl (fun _ => 0))))) H1 → va_D A (X ++ va_pl (L ++ [q]) (va_up f q (.inl (d 0, N', .inl (fun _ => 0))))) → va_S A H0 H1 locs →
      W p l e R s m args below meth c H1 locs (cells + 1) (slots + N') Q (F0 m (pc + 2) ls (.ref q :: rest))) : W p l e R s m args below meth c H locs cells slots Q (F0 m pc ls (.int n :: rest)) := by
  refine va_newa (atype := .int) (ty := .int) (a0 := (N', .inl (fun _ => 0))) hexec hb harr rfl hK hP hD hS hA (fun cA => rfl) hn hN hbytes hcells hslots hdg (fun q cA H1 hK1 hP1 hD1 hS1 => ?_)
  have e1 : cA = d 0 := va_K_int hK1 (i := 5) (j := 0) rfl rfl
  subst e1
  have hq : q ∉ L := va_pl_fresh2 hD1
  rw [List.append_assoc, va_pl_push hq] at hP1 hD1
  exact kk q H1 hq hP1 hD1 hS1
/-- a new object -/
theorem y_newP {c0 : Code} (hexec : p.tables.exec = Jvm.exec) (hb : c0.code = cc) {own C : String} {T : u_T} {N ci index : Nat} {Ts : List Cond} (hts : ∀ w ∈ Ts, w.before args s = true) (hin : ∀ w ∈ u_ws C T N, w ∈ Ts) (ty : Nat → FieldType) (hty : ∀ k, k < N → parseFieldDescriptor (T k).2.2.1 = some (ty k)) (hown : s.vm.findClass own = some m.cls) (hcl : (Cond.classLink own index C).before args s = true) (hinst : (Cond.instantiable C N).before args s = true) (hini : (Cond.initialized C).before args s = true)
    (hK : va_K D cl tys s) (hP : va_P D cl (X ++ va_pl L f) H) (hD : va_D A (X ++ va_pl L f)) (hS : va_S A H0 H locs) (hA : ∀ q, H0.size ≤ q → A q) (hc : cl[ci]? = some (C, T, N)) {fs : List Value} (hfs : ∀ j, j < N → defaultValue (ty j) = vp_V fs j) (hcells : cells + 1 ≤ R.cells) (hslots : slots + N ≤ R.slots) (hdg : decode cc pc = .ok (.new index, 3))
    (kk : ∀ (q : Nat) (H1 : Heap), q ∉ L → va_P D cl (X ++ va_pl (L ++ [q]) (va_up f q (.inr (ci, fs)))) H1 → va_D A (X ++ va_pl (L ++ [q]) (va_up f q (.inr (ci, fs)))) → va_S A H0 H1 locs →
      W p l e R s m args below meth c0 H1 locs (cells + 1) (slots + N) Q (F0 m (pc + 3) ls (.ref q :: rest))) : W p l e R s m args below meth c0 H locs cells slots Q (F0 m pc ls rest) := by
  refine va_new hexec hb hts hin ty hty hown hcl hinst hini hK hP hD hS hA hc hfs hcells hslots hdg (fun q H1 hP1 hD1 hS1 => ?_)
  have hq : q ∉ L := va_pl_fresh2 hD1
  rw [List.append_assoc, va_pl_push hq] at hP1 hD1
  exact kk q H1 hq hP1 hD1 hS1
/-- an array of int arrays read -/
theorem y_aldA (hexec : p.tables.exec = Jvm.exec) (hb : c.code = cc) (hK : va_K D cl tys s) (hP : va_P D cl ws H) (q0 t0 : Nat) {cA : ClassId} {n a : Nat} {g : Nat → Option Nat} (ha : ws[q0]? = some (a, .inl (cA, n, .inr (.inr (.inr (.inr g)))))) (ht : tys[t0]? = some (cA, .array .int)) {i : Int32} {N : Nat} (hi : i = nI N) (hN : N < n) (hn : n < 2 ^ 31) (hdg : decode cc pc = .ok (.aaload, 1))
    (kk : W p l e R s m args below meth c H locs cells slots Q (F0 m (pc + 1) ls (va_rf (g N) :: rest))) : W p l e R s m args below meth c H locs cells slots Q (F0 m pc ls (.int i :: .ref a :: rest)) := by
  subst hi
  have hin := vp_in_nI hN hn
  have hlt : (nI N).toNatClampNeg < n := Nat.not_le.mp fun q => hin (Or.inr q)
  refine W.aald (v := va_rf (g (nI N).toNatClampNeg)) (ty := .array .int) hexec hb (hP q0 _ ha) ((hK.2 t0 _ ht).1 n (fun j => va_rf (g j))) rfl (fun q => by cases q) (by show ¬ (nI N < 0 ∨ (arrV _ _ _).slots.size ≤ _); rw [arrV_size]; exact hin) (by show (arrV _ _ _).slots[_]? = _; rw [arrV_read _ _ hlt]) rfl rfl hdg ?_
  rw [nI_clamp (by omega)]
  exact kk
/-- the class of int[][] is over int[]'s -/
def KA2 (d : Nat → Nat) (U : State) : Prop := ∃ kA : Class, U.vm.classes[d 2]? = some kA ∧ kA.kind = .array (d 0) (.array .int)
theorem KA2.moved {d : Nat → Nat} {u U : State} (hvm : u.vm.Alike U.vm) (h : KA2 d u) : KA2 d U := by
  obtain ⟨kA, h1, h2⟩ := h
  obtain ⟨k', hk', he⟩ := hvm.2.2 _ _ h1
  exact ⟨k', hk', by rw [he]; exact h2⟩
/-- an int array that stands in the pool is laid into an array of them -/
theorem y_astA (hexec : p.tables.exec = Jvm.exec) (hb : c.code = cc) {d : Nat → Nat} (hE : KA2 d s) (hK : va_K D cl (TYS d) s) (hP : va_P D cl ws H) (hD : va_D A ws) (hS : va_S A H0 H locs) (q0 : Nat) {n v a : Nat} {g : Nat → Option Nat} (ha : ws[q0]? = some (a, .inl (d 2, n, .inr (.inr (.inr (.inr g)))))) {n1 : Nat} {r1 : Nat → Int32} (hv : H[v]? = some (vp_cell (d 0) (n1, .inl r1))) {i : Int32} {N : Nat} (hi : i = nI N) (hN : N < n) (hn : n < 2 ^ 31) (hdg : decode cc pc = .ok (.aastore, 1))
    (kk : ∀ (H1 : Heap) (locs1 : List Loc), va_P D cl (ws.set q0 (a, .inl (d 2, n, .inr (.inr (.inr (.inr (va_up g N (some v)))))))) H1 → va_D A (ws.set q0 (a, .inl (d 2, n, .inr (.inr (.inr (.inr (va_up g N (some v)))))))) → va_S A H0 H1 locs1 → W p l e R s m args below meth c H1 locs1 cells slots Q (F0 m (pc + 1) ls rest)) : W p l e R s m args below meth c H locs cells slots Q (F0 m pc ls (.ref v :: .int i :: .ref a :: rest)) := by
  subst hi
  have hin := vp_in_nI hN hn
  have hlt : (nI N).toNatClampNeg < n := Nat.not_le.mp fun q => hin (Or.inr q)
  obtain ⟨kA, k1, k2⟩ := hE
  obtain ⟨-, kI, kI1, -⟩ := ((hK.2 0 _ rfl).1 n1 (fun j => .int (r1 j)))
  refine W.aast hexec hb (hP q0 _ ha) (fun q h => by cases h) (fun h => by cases h) k1 k2 rfl kI1 ⟨fun q => hin (Or.inl q), by show _ < (arrV _ _ _).slots.size; rw [arrV_size]; exact hlt⟩ hv (fun q h => by cases h) kI1 (va_asg _ _) rfl rfl hdg fun H1 e z oq => ?_
  rw [nI_clamp (by omega)] at e
  refine kk H1 _ (hP.set hD ha ?_ oq) (hD.set ha) (hS.put z oq (hD.2 q0 _ ha))
  show H1[a]? = some (vp_cell _ _)
  rw [e]
  rw [vp_cell_q, vp_cell_q, arrV_store]
  congr 2
  funext q
  by_cases hq : q = N
  · subst hq
    simp [updV, va_up, va_rf]
  · simp [updV, va_up, hq]
theorem y_aastN0 {T : State} (X : Stand p l e R s m args below meth c T locs cells slots) (hexec : p.tables.exec = Jvm.exec) {a : Addr} {cell : Cell} {t0 : FieldType} {j : Int32} (hcell : T.heap[a]? = some cell) (harr : s.isArrayOf cell (.array t0)) (hknown : cell.vm ≠ .unknown)
    (hin : ¬ (j < 0 ∨ cell.slots.size ≤ j.toNatClampNeg))
    {g : JFrame} (hg : g.method = m) {rest : List Value} (hstack : g.stack = .null :: .int j :: .ref a :: rest) (hdg : decode c.code g.pc = .ok (.aastore, 1)) :
    Stand p l e R s m args below meth c (T.setCell a (cell.setSlot j.toNatClampNeg .null)) (locs ++ [⟨a, j.toNatClampNeg⟩]) cells slots ∧
      ∀ target, Steps p.tables e below ((T.setCell a (cell.setSlot j.toNatClampNeg .null)).setTop { g with pc := g.pc + 1, stack := rest }) target → Steps p.tables e below (T.setTop g) target := by
  have hT := State.isArrayOf_alike X.warmed.alike harr
  have hfit : T.fitsSlot cell.cls cell.vm j.toNatClampNeg .null = true := by
    obtain ⟨hobj, k, hk, comp, hkind⟩ := hT
    cases hvm : cell.vm <;> first | exact absurd hvm (hobj _) | simp [State.fitsSlot, State.slotType?, hk, hkind, fits]
  refine ⟨X.stored hcell _ _, fun target hrest => ?_⟩
  subst hg
  jvm_step X.here [hexec, hdg]
  refine aastore.wp_of_null (c := cell) (t := .array t0) X.here.top hstack hcell hT hin hknown (Nat.not_le.mp fun q => hin (Or.inr q)) hfit ?_
  intro acts
  rw [afterInstr_ok]
  exact hrest
/-- null laid into an array of int arrays -/
theorem y_astAN (hexec : p.tables.exec = Jvm.exec) (hb : c.code = cc) (hK : va_K D cl tys s) (hP : va_P D cl ws H) (hD : va_D A ws) (hS : va_S A H0 H locs) (q0 t0 : Nat) {cA : ClassId} {n a : Nat} {g : Nat → Option Nat} (ha : ws[q0]? = some (a, .inl (cA, n, .inr (.inr (.inr (.inr g)))))) (ht : tys[t0]? = some (cA, .array .int)) {i : Int32} {N : Nat} (hi : i = nI N) (hN : N < n) (hn : n < 2 ^ 31) (hdg : decode cc pc = .ok (.aastore, 1))
    (kk : ∀ (H1 : Heap) (locs1 : List Loc), va_P D cl (ws.set q0 (a, .inl (cA, n, .inr (.inr (.inr (.inr (va_up g N none))))))) H1 → va_D A (ws.set q0 (a, .inl (cA, n, .inr (.inr (.inr (.inr (va_up g N none))))))) → va_S A H0 H1 locs1 → W p l e R s m args below meth c H1 locs1 cells slots Q (F0 m (pc + 1) ls rest)) : W p l e R s m args below meth c H locs cells slots Q (F0 m pc ls (.null :: .int i :: .ref a :: rest)) := by
  subst hi
  have hin := vp_in_nI hN hn
  intro T hT X
  have hT' : T.heap[a]? = some (vp_cell cA (n, .inr (.inr (.inr (.inr g))))) := by rw [hT]; exact hP q0 _ ha
  obtain ⟨X', st⟩ := y_aastN0 X hexec (j := nI N) (t0 := .int) hT' ((hK.2 t0 _ ht).1 n (fun j => va_rf (g j))) (fun h => by cases h) (by show ¬ (nI N < 0 ∨ (arrV _ _ _).slots.size ≤ _); rw [arrV_size]; exact hin) (g := F0 m pc ls (.null :: .int (nI N) :: .ref a :: rest)) rfl rfl (by rw [hb]; exact hdg)
  have hlt : a < T.heap.size := (Array.getElem?_eq_some_iff.mp hT').1
  have oq : ∀ q : Nat, q ≠ a → ((T.setCell a ((vp_cell cA (n, .inr (.inr (.inr (.inr g))))).setSlot (nI N).toNatClampNeg .null)).heap)[q]? = H[q]? := fun q hq => by rw [heapAt_setCell_ne _ (Ne.symm hq), hT]
  have z : (T.setCell a ((vp_cell cA (n, .inr (.inr (.inr (.inr g))))).setSlot (nI N).toNatClampNeg .null)).heap.size = H.size := by rw [size_setCell, hT]
  obtain ⟨t', a1, b1⟩ := kk _ (locs ++ [⟨a, (nI N).toNatClampNeg⟩]) (hP.set hD ha (by
      show (T.setCell a _).heap[a]? = some (vp_cell _ _)
      rw [heapAt_setCell_self _ hlt, nI_clamp (by omega), vp_cell_q, vp_cell_q, arrV_store]
      congr 2
      funext q
      by_cases hq : q = N
      · subst hq
        simp [updV, va_up, va_rf]
      · simp [updV, va_up, hq]) oq) (hD.set ha) (hS.put z oq (hD.2 q0 _ ha)) _ rfl X'
  exact ⟨t', st t' a1, b1⟩
end XROWS
/-- a start that asks more of the tables -/
abbrev pE (G : va_G) (d : Nat → Nat) (sz : Nat) (ws : va_W) (ex : State → Prop) (U : State) : Prop := U.heap.size = sz ∧ va_P G CLS ws U.heap ∧ va_K G CLS (TYS d) U ∧ va_D (fun _ => True) ws ∧ ex U
theorem pE_blind {G : va_G} {d : Nat → Nat} {sz : Nat} {ws : va_W} {av : List Value} {ex : State → Prop} (hm : ∀ u U : State, u.vm.Alike U.vm → ex u → ex U) : FrameBlind (va_Pc av (pE G d sz ws ex)) := fun a U g mk q => by
  obtain ⟨q0, q1, qP, qK, qD, qE⟩ := q
  exact ⟨q0, q1, qP, va_K.moved (u := U) (U := U.calling g mk a) (Vm.Alike.refl U.vm) qK, qD, hm U (U.calling g mk a) (Vm.Alike.refl U.vm) qE⟩
end XBASE
