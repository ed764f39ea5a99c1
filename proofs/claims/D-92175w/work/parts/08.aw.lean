/-! ===== the judgement AW and its rows (printed by gen_aw.py) ===== -/
abbrev Gl : Type := Nat × (Nat → ClassId) × (Nat → Nat → Nat) × (Nat → ClassId) × (Nat → Nat) × (Nat → Nat) × (Nat × Nat × (Nat → Int32))
abbrev gD (G : Gl) : va_G := (G.2.1, G.2.2.1)
abbrev gA (G : Gl) : Nat → ClassId := G.2.2.2.1
abbrev gKs (G : Gl) : Nat → Nat := G.2.2.2.2.1
abbrev gVs (G : Gl) : Nat → Nat := G.2.2.2.2.2.1
abbrev gSb (G : Gl) : Nat := G.2.2.2.2.2.2.1
abbrev gSL (G : Gl) : Nat := G.2.2.2.2.2.2.2.1
abbrev gSx (G : Gl) : Nat → Int32 := G.2.2.2.2.2.2.2.2
/-- the cells that the run has made -/
def gFr (G : Gl) : Nat → Prop := fun q => G.1 ≤ q
def aty (t : Nat) : FieldType := match t with
  | 0 => .int
  | 1 => .byte
  | 2 => .boolean
  | 3 => .object "SharedNights$Sky"
  | 4 => .object "SharedNights$Target"
  | 5 => .object "SharedNights$Plan"
  | 6 => .object "SharedNights$Rule"
  | 7 => .object "SharedNights$Look"
  | _ => .array .int
def gTy (G : Gl) : List (ClassId × FieldType) := (List.range 9).map (fun t => (gA G t, aty t))
theorem gTy_at {G : Gl} {t : Nat} (h : t < 9) : (gTy G)[t]? = some (gA G t, aty t) := by
  unfold gTy
  rw [List.getElem?_map, List.getElem?_range h]
  rfl
def nwWord : Cond → Bool
  | .fieldLinkNest .. => true
  | .methodLinkNest .. => true
  | .castable .. => true
  | .declares .. => true
  | .arrayOver (.object _) => true
  | _ => false
theorem nw_tabs {w : Cond} (h : nwWord w = true) : w.onTables = true ∨ ∃ C, w = .arrayOver (.object C) := by
  cases w with
  | fieldLinkNest => exact Or.inl rfl
  | methodLinkNest => exact Or.inl rfl
  | castable => exact Or.inl rfl
  | declares => exact Or.inl rfl
  | arrayOver t => cases t with
    | object C => exact Or.inr ⟨C, rfl⟩
    | _ => simp [nwWord] at h
  | _ => simp [nwWord] at h
theorem nw_use {w : Cond} (hw : nwWord w = true) {A : Array Value} {U : State} (h : va_Nw w U) : w.before A U = true := by
  rcases nw_tabs hw with e | ⟨C, rfl⟩
  · exact va_Nw.use e h
  · exact va_AO.use h
theorem nw_of {w : Cond} (hw : nwWord w = true) {A : Array Value} {U : State} (h : w.before A U = true) : va_Nw w U := by
  rcases nw_tabs hw with e | ⟨C, rfl⟩
  · exact va_Nw.of e h
  · exact va_AO.of h
theorem nw_warm {w : Cond} (hw : nwWord w = true) {s U : State} (hW : s.WarmedH U.vm) (h : va_Nw w s) : va_Nw w U := by
  cases w with
  | fieldLinkNest => exact va_Nw.warmF hW h
  | methodLinkNest => exact va_Nw.warmM hW h
  | castable => exact va_Nw.warmC hW h
  | declares => exact va_Nw.warmD hW h
  | arrayOver t => cases t with
    | object C => exact va_AO.moved hW.alike h
    | _ => simp [nwWord] at hw
  | _ => simp [nwWord] at hw
/-- the String constants: class, entry, text -/
def strT : List (String × Nat × String) := [("SharedNights$Reader", 107, "land"), ("SharedNights$Reader", 111, "with"), ("SharedNights$Reader", 116, "at"), ("SharedNights$Reader", 123, "worth"), ("SharedNights$Reader", 85, "expose"), ("SharedNights$Reader", 91, "seeing"), ("SharedNights$Reader", 93, "air"), ("SharedNights$Reader", 95, "dark"), ("SharedNights$Reader", 146, "wait"), ("SharedNights$Reader", 148, "to"), ("SharedNights$Fault", 1, "")]
def strLen : List Nat := [4, 4, 2, 5, 6, 6, 3, 4, 4, 2, 0]
def strByt : List (List Int32) := [[108, 97, 110, 100], [119, 105, 116, 104], [97, 116], [119, 111, 114, 116, 104], [101, 120, 112, 111, 115, 101], [115, 101, 101, 105, 110, 103], [97, 105, 114], [100, 97, 114, 107], [119, 97, 105, 116], [116, 111], []]
/-- what the tables say, at a state -/
def gX (G : Gl) (U : State) : Prop := G.1 ≤ U.heap.size ∧ va_K (gD G) vwCl (gTy G) U ∧ (∀ w ∈ lw_tbl, nwWord w = true → va_Nw w U) ∧ ∀ (i : Nat) (q : String × Nat × String), strT[i]? = some q → vk_R q.1 q.2.1 q.2.2 (gKs G i) U
/-- what stood in the heap before -/
def gH (G : Gl) (U : State) (H : Heap) : Prop := vk_S 11 strLen strByt (gKs G) (gVs G) (gFr G) U H ∧ va_Z "java/lang/String" "COMPACT_STRINGS" "Z" (.int 1) (gFr G) U H ∧ va_Zq "jdk/internal/util/Preconditions" "SIOOBE_FORMATTER" "Ljava/util/function/BiFunction;" (gFr G) U H ∧ va_Zq "java/lang/Throwable" "UNASSIGNED_STACK" "[Ljava/lang/StackTraceElement;" (gFr G) U H ∧ va_Zq "java/lang/Throwable" "SUPPRESSED_SENTINEL" "Ljava/util/List;" (gFr G) U H ∧ va_X (gSb G) (gSL G) (gSx G) U H ∧ gSb G < G.1
theorem gX.warm {G : Gl} {s U : State} (hz : s.heap.size ≤ U.heap.size) (hW : s.WarmedH U.vm) (h : gX G s) : gX G U :=
  ⟨Nat.le_trans h.1 hz, va_K.moved hW.alike h.2.1, fun w hw hn => nw_warm hn hW (h.2.2.1 w hw hn), fun i q hq => vk_R.warm hW (h.2.2.2 i q hq)⟩
theorem gH.kept {G : Gl} {U : State} {H H1 : Heap} (hb : gSb G < H.size) (h : gH G U H) (hq : ∀ a : Nat, a < H.size → ¬ gFr G a → H1[a]? = H[a]?) : gH G U H1 :=
  ⟨h.1.kept hq, h.2.1.kept hq, h.2.2.1.kept hq, h.2.2.2.1.kept hq, h.2.2.2.2.1.kept hq, h.2.2.2.2.2.1.kept (hq _ hb (Nat.not_le.mpr h.2.2.2.2.2.2)), h.2.2.2.2.2.2⟩
theorem gH.moved {G : Gl} {u U : State} {H : Heap} (hvm : u.vm.Alike U.vm) (h : gH G u H) : gH G U H :=
  ⟨h.1.moved hvm, h.2.1.moved hvm, h.2.2.1.moved hvm, h.2.2.2.1.moved hvm, h.2.2.2.2.1.moved hvm, h.2.2.2.2.2.1.moved hvm, h.2.2.2.2.2.2⟩
/-- the world: the tables, what stood before, the cells of the run -/
def Wd (G : Gl) (h : Hp) (U : State) : Prop := gX G U ∧ gH G U U.heap ∧ ∃ ws : va_W, va_P (gD G) vwCl ws U.heap ∧ va_D (gFr G) ws ∧ Lk ws (cellOf (gA G) h)
/-- a method: its name, code, locals, answer, room -/
abbrev Mi : Type := MethodName × ByteArray × Nat × Option FieldType × Room
abbrev mY (M : Mi) : MethodName := M.1
abbrev mC (M : Mi) : ByteArray := M.2.1
abbrev mL (M : Mi) : Nat := M.2.2.1
abbrev mT (M : Mi) : Option FieldType := M.2.2.2.1
abbrev mR (M : Mi) : Room := M.2.2.2.2
def Cx (G : Gl) (M : Mi) (p : Program) (s : State) (m : MethodId) (args : Array Value) (meth : Method) (c : Code) : Prop :=
  p.tables.exec = Jvm.exec ∧ c.code = mC M ∧ meth.sig.returnType = mT M ∧ meth.locks = false ∧ c.maxLocals = mL M ∧ s.vm.findClass (mY M).cls = some m.cls ∧ (∀ w ∈ lw_all, w.before args s = true) ∧ meth.name = (mY M).name ∧ gX G s ∧ gH G s s.heap
def FrameEndX (s : State) (t : State) (L : List Loc) (k n : Nat) : Prop := s.WarmedH t.vm ∧ s.sameButNew { t with vm := s.vm } L k n
/-- a method's end: it answers or throws -/
def MQX (below : List Frame) (Qc : State → Outcome → State → Prop) (s : State) (mc ms : Nat) (free : Addr → Prop) : State → Prop := fun t =>
  ∃ o, t.status = .running ∧ Ended t below o ∧ Qc s o t ∧ ∃ L, FrameEndX s t L mc ms ∧ ∀ q ∈ L, free q.base
def QcG (G : Gl) (Q : Outcome → Hp → Prop) : State → Outcome → State → Prop := fun st oc t => (∃ h' : Hp, Q oc h' ∧ Wd G h' t) ∧ va_F (gFr G) st t
/-- AW: at pc, with the locals lv, the stack st, the heap h and room for b.1 cells of b.2 slots, the method comes to its end with Q -/
def AW (G : Gl) (M : Mi) (Q : Outcome → Hp → Prop) (b : Nat × Nat) (h : Hp) (pc : Nat) (lv : List (Nat × Value)) (st : List Value) : Prop :=
  ∀ (p : Program) (l : Launch) (e : Env) (s : State) (m : MethodId) (args : Array Value) (below : List Frame) (meth : Method) (c : Code) (H : Heap) (locs : List Loc) (cells slots : Nat) (ls : Array Slot) (ws : va_W),
    Cx G M p s m args meth c → va_P (gD G) vwCl ws H → va_D (gFr G) ws → Lk ws (cellOf (gA G) h) → va_S (gFr G) s.heap H locs → cells + b.1 ≤ (mR M).cells → slots + b.2 ≤ (mR M).slots → lv_has ls (mL M) lv →
    W p l e (mR M) s m args below meth c H locs cells slots (MQX below (QcG G Q) s (mR M).cells (mR M).slots (gFr G)) (F0 m pc ls st)
section AWR
variable {G : Gl} {M : Mi} {Q : Outcome → Hp → Prop} {b : Nat × Nat} {h : Hp} {pc : Nat} {lv : List (Nat × Value)} {st : List Value}
theorem Cx.wd {p : Program} {s : State} {m : MethodId} {args : Array Value} {meth : Method} {c : Code} {H : Heap} {locs : List Loc} {ws : va_W} (C : Cx G M p s m args meth c) (hP : va_P (gD G) vwCl ws H) (hD : va_D (gFr G) ws) (hL : Lk ws (cellOf (gA G) h)) (hS : va_S (gFr G) s.heap H locs) {U : State} (hU : U.heap = H) (hW : s.WarmedH U.vm) : Wd G h U := by
  obtain ⟨-, -, -, -, -, -, -, -, hX, hH⟩ := C
  subst hU
  exact ⟨hX.warm hS.1 hW, (hH.moved hW.alike).kept (Nat.lt_of_lt_of_le hH.2.2.2.2.2.2 hX.1) hS.2.1, ws, hP, hD, hL⟩
theorem W.mono {p : Program} {l : Launch} {e : Env} {R : Room} {s : State} {m : MethodId} {args : Array Value} {below : List Frame} {meth : Method} {c : Code} {H : Heap} {locs : List Loc} {cells slots : Nat} {Q1 Q2 : State → Prop} {g : JFrame} (hQ : ∀ t, Q1 t → Q2 t) (k : W p l e R s m args below meth c H locs cells slots Q1 g) : W p l e R s m args below meth c H locs cells slots Q2 g := fun T hT X => by
  obtain ⟨t, a1, b1⟩ := k T hT X
  exact ⟨t, a1, hQ t b1⟩
theorem MQX.of {below : List Frame} {Qc : State → Outcome → State → Prop} {a : Array Value} {s : State} {mc ms : Nat} {free : Addr → Prop} {t : State} (h : MQ below (fun _ => Qc) a s mc ms free t) : MQX below Qc s mc ms free t := by
  obtain ⟨o, h1, h2, h3, L, h4, h5⟩ := h
  exact ⟨o, h1, h2, h3, L, h4.2, h5⟩

theorem AW_iconst {n : Int} {v : Int32} (hd : decode (mC M) pc = .ok (.iconst n, 1)) (hv : Int32.ofInt n = v) (k : AW G M Q b h (pc + 1) lv (.int v :: st)) : AW G M Q b h pc lv (st) :=
  fun p l e s m args below meth c H locs cells slots ls ws C hP hD hL hS hc hs hl => lv_iconst C.1 C.2.1 hd hv (k p l e s m args below meth c H locs cells slots ls ws C hP hD hL hS hc hs hl)
theorem AW_bipush {n : Int} {v : Int32} (hd : decode (mC M) pc = .ok (.bipush n, 2)) (hv : (Int8.ofInt n).toInt32 = v) (k : AW G M Q b h (pc + 2) lv (.int v :: st)) : AW G M Q b h pc lv (st) :=
  fun p l e s m args below meth c H locs cells slots ls ws C hP hD hL hS hc hs hl => lv_bipush C.1 C.2.1 hd hv (k p l e s m args below meth c H locs cells slots ls ws C hP hD hL hS hc hs hl)
theorem AW_sipush {n : Int} {v : Int32} (hd : decode (mC M) pc = .ok (.sipush n, 3)) (hv : (Int16.ofInt n).toInt32 = v) (k : AW G M Q b h (pc + 3) lv (.int v :: st)) : AW G M Q b h pc lv (st) :=
  fun p l e s m args below meth c H locs cells slots ls ws C hP hD hL hS hc hs hl => lv_sipush C.1 C.2.1 hd hv (k p l e s m args below meth c H locs cells slots ls ws C hP hD hL hS hc hs hl)
theorem AW_lconst {n : Fin 2} {v : Int64} (hd : decode (mC M) pc = .ok (.lconst n, 1)) (hv : Int64.ofNat (n : Nat) = v) (k : AW G M Q b h (pc + 1) lv (.long v :: st)) : AW G M Q b h pc lv (st) :=
  fun p l e s m args below meth c H locs cells slots ls ws C hP hD hL hS hc hs hl => lv_lconst C.1 C.2.1 hd hv (k p l e s m args below meth c H locs cells slots ls ws C hP hD hL hS hc hs hl)
theorem AW_iload_n {k : Fin 4} {i : Nat} {x : Int32} (hd : decode (mC M) pc = .ok (.iload_n k, 1)) (hi : (k : Nat) = i) (q : Nat) (hq : lv[q]? = some (i, .int x)) (k : AW G M Q b h (pc + 1) lv (.int x :: st)) : AW G M Q b h pc lv (st) :=
  fun p l e s m args below meth c H locs cells slots ls ws C hP hD hL hS hc hs hl => lv_iload_n C.1 C.2.1 hd hi (lv_at hl q hq) (k p l e s m args below meth c H locs cells slots ls ws C hP hD hL hS hc hs hl)
theorem AW_iload {i : Nat} {x : Int32} (hd : decode (mC M) pc = .ok (.iload i, 2)) (q : Nat) (hq : lv[q]? = some (i, .int x)) (k : AW G M Q b h (pc + 2) lv (.int x :: st)) : AW G M Q b h pc lv (st) :=
  fun p l e s m args below meth c H locs cells slots ls ws C hP hD hL hS hc hs hl => lv_iload C.1 C.2.1 hd (lv_at hl q hq) (k p l e s m args below meth c H locs cells slots ls ws C hP hD hL hS hc hs hl)
theorem AW_istore_n {k : Fin 4} {i : Nat} {x : Int32} {lv' : List (Nat × Value)} (hd : decode (mC M) pc = .ok (.istore_n k, 1)) (hi : (k : Nat) = i) (hn : i < mL M) (he : (i, Value.int x) :: lv.filter (fun q => !(q.1 == i) && !(q.1 + 1 == i && q.2.category == 2)) = lv') (k : AW G M Q b h (pc + 1) lv' st) : AW G M Q b h pc lv (.int x :: st) :=
  fun p l e s m args below meth c H locs cells slots ls ws C hP hD hL hS hc hs hl => lv_istore_n C.1 C.2.1 hd hi hl hn he (fun ls2 hl2 => k p l e s m args below meth c H locs cells slots ls2 ws C hP hD hL hS hc hs hl2)
theorem AW_istore {i : Nat} {x : Int32} {lv' : List (Nat × Value)} (hd : decode (mC M) pc = .ok (.istore i, 2)) (hn : i < mL M) (he : (i, Value.int x) :: lv.filter (fun q => !(q.1 == i) && !(q.1 + 1 == i && q.2.category == 2)) = lv') (k : AW G M Q b h (pc + 2) lv' st) : AW G M Q b h pc lv (.int x :: st) :=
  fun p l e s m args below meth c H locs cells slots ls ws C hP hD hL hS hc hs hl => lv_istore C.1 C.2.1 hd hl hn he (fun ls2 hl2 => k p l e s m args below meth c H locs cells slots ls2 ws C hP hD hL hS hc hs hl2)
theorem AW_lload_n {k : Fin 4} {i : Nat} {x : Int64} (hd : decode (mC M) pc = .ok (.lload_n k, 1)) (hi : (k : Nat) = i) (q : Nat) (hq : lv[q]? = some (i, .long x)) (k : AW G M Q b h (pc + 1) lv (.long x :: st)) : AW G M Q b h pc lv (st) :=
  fun p l e s m args below meth c H locs cells slots ls ws C hP hD hL hS hc hs hl => lv_lload_n C.1 C.2.1 hd hi (lv_at hl q hq) (k p l e s m args below meth c H locs cells slots ls ws C hP hD hL hS hc hs hl)
theorem AW_lload {i : Nat} {x : Int64} (hd : decode (mC M) pc = .ok (.lload i, 2)) (q : Nat) (hq : lv[q]? = some (i, .long x)) (k : AW G M Q b h (pc + 2) lv (.long x :: st)) : AW G M Q b h pc lv (st) :=
  fun p l e s m args below meth c H locs cells slots ls ws C hP hD hL hS hc hs hl => lv_lload C.1 C.2.1 hd (lv_at hl q hq) (k p l e s m args below meth c H locs cells slots ls ws C hP hD hL hS hc hs hl)
theorem AW_lstore_n {k : Fin 4} {i : Nat} {x : Int64} {lv' : List (Nat × Value)} (hd : decode (mC M) pc = .ok (.lstore_n k, 1)) (hi : (k : Nat) = i) (hn : i + 1 < mL M) (he : (i, Value.long x) :: lv.filter (fun q => !(q.1 == i) && (!(q.1 == i + 1) && !(q.1 + 1 == i && q.2.category == 2))) = lv') (k : AW G M Q b h (pc + 1) lv' st) : AW G M Q b h pc lv (.long x :: st) :=
  fun p l e s m args below meth c H locs cells slots ls ws C hP hD hL hS hc hs hl => lv_lstore_n C.1 C.2.1 hd hi hl hn he (fun ls2 hl2 => k p l e s m args below meth c H locs cells slots ls2 ws C hP hD hL hS hc hs hl2)
theorem AW_lstore {i : Nat} {x : Int64} {lv' : List (Nat × Value)} (hd : decode (mC M) pc = .ok (.lstore i, 2)) (hn : i + 1 < mL M) (he : (i, Value.long x) :: lv.filter (fun q => !(q.1 == i) && (!(q.1 == i + 1) && !(q.1 + 1 == i && q.2.category == 2))) = lv') (k : AW G M Q b h (pc + 2) lv' st) : AW G M Q b h pc lv (.long x :: st) :=
  fun p l e s m args below meth c H locs cells slots ls ws C hP hD hL hS hc hs hl => lv_lstore C.1 C.2.1 hd hl hn he (fun ls2 hl2 => k p l e s m args below meth c H locs cells slots ls2 ws C hP hD hL hS hc hs hl2)
theorem AW_aload_n {k : Fin 4} {i : Nat} {x : Nat} (hd : decode (mC M) pc = .ok (.aload_n k, 1)) (hi : (k : Nat) = i) (q : Nat) (hq : lv[q]? = some (i, .ref x)) (k : AW G M Q b h (pc + 1) lv (.ref x :: st)) : AW G M Q b h pc lv (st) :=
  fun p l e s m args below meth c H locs cells slots ls ws C hP hD hL hS hc hs hl => lv_aload_n C.1 C.2.1 hd hi (lv_at hl q hq) (k p l e s m args below meth c H locs cells slots ls ws C hP hD hL hS hc hs hl)
theorem AW_aload {i : Nat} {x : Nat} (hd : decode (mC M) pc = .ok (.aload i, 2)) (q : Nat) (hq : lv[q]? = some (i, .ref x)) (k : AW G M Q b h (pc + 2) lv (.ref x :: st)) : AW G M Q b h pc lv (st) :=
  fun p l e s m args below meth c H locs cells slots ls ws C hP hD hL hS hc hs hl => lv_aload C.1 C.2.1 hd (lv_at hl q hq) (k p l e s m args below meth c H locs cells slots ls ws C hP hD hL hS hc hs hl)
theorem AW_astore_n {k : Fin 4} {i : Nat} {x : Nat} {lv' : List (Nat × Value)} (hd : decode (mC M) pc = .ok (.astore_n k, 1)) (hi : (k : Nat) = i) (hn : i < mL M) (he : (i, Value.ref x) :: lv.filter (fun q => !(q.1 == i) && !(q.1 + 1 == i && q.2.category == 2)) = lv') (k : AW G M Q b h (pc + 1) lv' st) : AW G M Q b h pc lv (.ref x :: st) :=
  fun p l e s m args below meth c H locs cells slots ls ws C hP hD hL hS hc hs hl => lv_astore_n C.1 C.2.1 hd hi hl hn he (fun ls2 hl2 => k p l e s m args below meth c H locs cells slots ls2 ws C hP hD hL hS hc hs hl2)
theorem AW_astore {i : Nat} {x : Nat} {lv' : List (Nat × Value)} (hd : decode (mC M) pc = .ok (.astore i, 2)) (hn : i < mL M) (he : (i, Value.ref x) :: lv.filter (fun q => !(q.1 == i) && !(q.1 + 1 == i && q.2.category == 2)) = lv') (k : AW G M Q b h (pc + 2) lv' st) : AW G M Q b h pc lv (.ref x :: st) :=
  fun p l e s m args below meth c H locs cells slots ls ws C hP hD hL hS hc hs hl => lv_astore C.1 C.2.1 hd hl hn he (fun ls2 hl2 => k p l e s m args below meth c H locs cells slots ls2 ws C hP hD hL hS hc hs hl2)
theorem AW_iinc {i : Nat} {n : Int} {x v : Int32} {lv' : List (Nat × Value)} (hd : decode (mC M) pc = .ok (.iinc i n, 3)) (q : Nat) (hq : lv[q]? = some (i, .int x)) (hv : x + Int32.ofInt n = v) (hn : i < mL M) (he : (i, Value.int v) :: lv.filter (fun q => !(q.1 == i) && !(q.1 + 1 == i && q.2.category == 2)) = lv') (k : AW G M Q b h (pc + 3) lv' st) : AW G M Q b h pc lv st :=
  fun p l e s m args below meth c H locs cells slots ls ws C hP hD hL hS hc hs hl => lv_iinc C.1 C.2.1 hd hl hq hv hn he (fun ls2 hl2 => k p l e s m args below meth c H locs cells slots ls2 ws C hP hD hL hS hc hs hl2)
/-- fewer locals, in another order -/
theorem AW_lv {lv' : List (Nat × Value)} (ks : List Nat) (he : lv_pick lv ks = lv') (k : AW G M Q b h pc lv' st) : AW G M Q b h pc lv st :=
  fun p l e s m args below meth c H locs cells slots ls ws C hP hD hL hS hc hs hl => k p l e s m args below meth c H locs cells slots ls ws C hP hD hL hS hc hs (lv_sub hl ks he)
theorem AW_mono {Q1 : Outcome → Hp → Prop} (hQ : ∀ o h', Q1 o h' → Q o h') (k : AW G M Q1 b h pc lv st) : AW G M Q b h pc lv st :=
  fun p l e s m args below meth c H locs cells slots ls ws C hP hD hL hS hc hs hl => W.mono (fun t ⟨o, h1, h2, ⟨⟨h', hq, hw⟩, hf⟩, hr⟩ => ⟨o, h1, h2, ⟨⟨h', hQ o h' hq, hw⟩, hf⟩, hr⟩) (k p l e s m args below meth c H locs cells slots ls ws C hP hD hL hS hc hs hl)
theorem AW_less {b1 b2 c1 c2 : Nat} (h1 : c1 ≤ b1) (h2 : c2 ≤ b2) (k : AW G M Q (c1, c2) h pc lv st) : AW G M Q (b1, b2) h pc lv st :=
  fun p l e s m args below meth c H locs cells slots ls ws C hP hD hL hS hc hs hl => k p l e s m args below meth c H locs cells slots ls ws C hP hD hL hS (show cells + c1 ≤ _ from Nat.le_trans (Nat.add_le_add_left h1 _) hc) (show slots + c2 ≤ _ from Nat.le_trans (Nat.add_le_add_left h2 _) hs) hl
theorem AW_iadd {x y : Int32} (hd : decode (mC M) pc = .ok (.iadd, 1)) (k : AW G M Q b h (pc + 1) lv (.int (x + y) :: st)) : AW G M Q b h pc lv (.int y :: .int x :: st) :=
  fun p l e s m args below meth c H locs cells slots ls ws C hP hD hL hS hc hs hl => lv_iadd C.1 C.2.1 hd (k p l e s m args below meth c H locs cells slots ls ws C hP hD hL hS hc hs hl)
theorem AW_ladd {x y : Int64} (hd : decode (mC M) pc = .ok (.ladd, 1)) (k : AW G M Q b h (pc + 1) lv (.long (x + y) :: st)) : AW G M Q b h pc lv (.long y :: .long x :: st) :=
  fun p l e s m args below meth c H locs cells slots ls ws C hP hD hL hS hc hs hl => lv_ladd C.1 C.2.1 hd (k p l e s m args below meth c H locs cells slots ls ws C hP hD hL hS hc hs hl)
theorem AW_isub {x y : Int32} (hd : decode (mC M) pc = .ok (.isub, 1)) (k : AW G M Q b h (pc + 1) lv (.int (x - y) :: st)) : AW G M Q b h pc lv (.int y :: .int x :: st) :=
  fun p l e s m args below meth c H locs cells slots ls ws C hP hD hL hS hc hs hl => lv_isub C.1 C.2.1 hd (k p l e s m args below meth c H locs cells slots ls ws C hP hD hL hS hc hs hl)
theorem AW_lsub {x y : Int64} (hd : decode (mC M) pc = .ok (.lsub, 1)) (k : AW G M Q b h (pc + 1) lv (.long (x - y) :: st)) : AW G M Q b h pc lv (.long y :: .long x :: st) :=
  fun p l e s m args below meth c H locs cells slots ls ws C hP hD hL hS hc hs hl => lv_lsub C.1 C.2.1 hd (k p l e s m args below meth c H locs cells slots ls ws C hP hD hL hS hc hs hl)
theorem AW_imul {x y : Int32} (hd : decode (mC M) pc = .ok (.imul, 1)) (k : AW G M Q b h (pc + 1) lv (.int (x * y) :: st)) : AW G M Q b h pc lv (.int y :: .int x :: st) :=
  fun p l e s m args below meth c H locs cells slots ls ws C hP hD hL hS hc hs hl => lv_imul C.1 C.2.1 hd (k p l e s m args below meth c H locs cells slots ls ws C hP hD hL hS hc hs hl)
theorem AW_lmul {x y : Int64} (hd : decode (mC M) pc = .ok (.lmul, 1)) (k : AW G M Q b h (pc + 1) lv (.long (x * y) :: st)) : AW G M Q b h pc lv (.long y :: .long x :: st) :=
  fun p l e s m args below meth c H locs cells slots ls ws C hP hD hL hS hc hs hl => lv_lmul C.1 C.2.1 hd (k p l e s m args below meth c H locs cells slots ls ws C hP hD hL hS hc hs hl)
theorem AW_iand {x y : Int32} (hd : decode (mC M) pc = .ok (.iand, 1)) (k : AW G M Q b h (pc + 1) lv (.int (x &&& y) :: st)) : AW G M Q b h pc lv (.int y :: .int x :: st) :=
  fun p l e s m args below meth c H locs cells slots ls ws C hP hD hL hS hc hs hl => lv_iand C.1 C.2.1 hd (k p l e s m args below meth c H locs cells slots ls ws C hP hD hL hS hc hs hl)
theorem AW_land {x y : Int64} (hd : decode (mC M) pc = .ok (.land, 1)) (k : AW G M Q b h (pc + 1) lv (.long (x &&& y) :: st)) : AW G M Q b h pc lv (.long y :: .long x :: st) :=
  fun p l e s m args below meth c H locs cells slots ls ws C hP hD hL hS hc hs hl => lv_land C.1 C.2.1 hd (k p l e s m args below meth c H locs cells slots ls ws C hP hD hL hS hc hs hl)
theorem AW_ior {x y : Int32} (hd : decode (mC M) pc = .ok (.ior, 1)) (k : AW G M Q b h (pc + 1) lv (.int (x ||| y) :: st)) : AW G M Q b h pc lv (.int y :: .int x :: st) :=
  fun p l e s m args below meth c H locs cells slots ls ws C hP hD hL hS hc hs hl => lv_ior C.1 C.2.1 hd (k p l e s m args below meth c H locs cells slots ls ws C hP hD hL hS hc hs hl)
theorem AW_lor {x y : Int64} (hd : decode (mC M) pc = .ok (.lor, 1)) (k : AW G M Q b h (pc + 1) lv (.long (x ||| y) :: st)) : AW G M Q b h pc lv (.long y :: .long x :: st) :=
  fun p l e s m args below meth c H locs cells slots ls ws C hP hD hL hS hc hs hl => lv_lor C.1 C.2.1 hd (k p l e s m args below meth c H locs cells slots ls ws C hP hD hL hS hc hs hl)
theorem AW_ixor {x y : Int32} (hd : decode (mC M) pc = .ok (.ixor, 1)) (k : AW G M Q b h (pc + 1) lv (.int (x ^^^ y) :: st)) : AW G M Q b h pc lv (.int y :: .int x :: st) :=
  fun p l e s m args below meth c H locs cells slots ls ws C hP hD hL hS hc hs hl => lv_ixor C.1 C.2.1 hd (k p l e s m args below meth c H locs cells slots ls ws C hP hD hL hS hc hs hl)
theorem AW_lxor {x y : Int64} (hd : decode (mC M) pc = .ok (.lxor, 1)) (k : AW G M Q b h (pc + 1) lv (.long (x ^^^ y) :: st)) : AW G M Q b h pc lv (.long y :: .long x :: st) :=
  fun p l e s m args below meth c H locs cells slots ls ws C hP hD hL hS hc hs hl => lv_lxor C.1 C.2.1 hd (k p l e s m args below meth c H locs cells slots ls ws C hP hD hL hS hc hs hl)
theorem AW_idiv {x y : Int32} (hd : decode (mC M) pc = .ok (.idiv, 1)) (hne : ¬ y = 0) (k : AW G M Q b h (pc + 1) lv (.int (x / y) :: st)) : AW G M Q b h pc lv (.int y :: .int x :: st) :=
  fun p l e s m args below meth c H locs cells slots ls ws C hP hD hL hS hc hs hl => lv_idiv C.1 C.2.1 hd hne (k p l e s m args below meth c H locs cells slots ls ws C hP hD hL hS hc hs hl)
theorem AW_ldiv {x y : Int64} (hd : decode (mC M) pc = .ok (.ldiv, 1)) (hne : ¬ y = 0) (k : AW G M Q b h (pc + 1) lv (.long (x / y) :: st)) : AW G M Q b h pc lv (.long y :: .long x :: st) :=
  fun p l e s m args below meth c H locs cells slots ls ws C hP hD hL hS hc hs hl => lv_ldiv C.1 C.2.1 hd hne (k p l e s m args below meth c H locs cells slots ls ws C hP hD hL hS hc hs hl)
theorem AW_irem {x y : Int32} (hd : decode (mC M) pc = .ok (.irem, 1)) (hne : ¬ y = 0) (k : AW G M Q b h (pc + 1) lv (.int (x - x / y * y) :: st)) : AW G M Q b h pc lv (.int y :: .int x :: st) :=
  fun p l e s m args below meth c H locs cells slots ls ws C hP hD hL hS hc hs hl => lv_irem C.1 C.2.1 hd hne (k p l e s m args below meth c H locs cells slots ls ws C hP hD hL hS hc hs hl)
theorem AW_lrem {x y : Int64} (hd : decode (mC M) pc = .ok (.lrem, 1)) (hne : ¬ y = 0) (k : AW G M Q b h (pc + 1) lv (.long (x - x / y * y) :: st)) : AW G M Q b h pc lv (.long y :: .long x :: st) :=
  fun p l e s m args below meth c H locs cells slots ls ws C hP hD hL hS hc hs hl => lv_lrem C.1 C.2.1 hd hne (k p l e s m args below meth c H locs cells slots ls ws C hP hD hL hS hc hs hl)
theorem AW_ineg {x : Int32} (hd : decode (mC M) pc = .ok (.ineg, 1)) (k : AW G M Q b h (pc + 1) lv (.int (-x) :: st)) : AW G M Q b h pc lv (.int x :: st) :=
  fun p l e s m args below meth c H locs cells slots ls ws C hP hD hL hS hc hs hl => lv_ineg C.1 C.2.1 hd (k p l e s m args below meth c H locs cells slots ls ws C hP hD hL hS hc hs hl)
theorem AW_ishl {x y : Int32} (hd : decode (mC M) pc = .ok (.ishl, 1)) (k : AW G M Q b h (pc + 1) lv (.int (x <<< (y &&& 31)) :: st)) : AW G M Q b h pc lv (.int y :: .int x :: st) :=
  fun p l e s m args below meth c H locs cells slots ls ws C hP hD hL hS hc hs hl => lv_ishl C.1 C.2.1 hd (k p l e s m args below meth c H locs cells slots ls ws C hP hD hL hS hc hs hl)
theorem AW_ishr {x y : Int32} (hd : decode (mC M) pc = .ok (.ishr, 1)) (k : AW G M Q b h (pc + 1) lv (.int (x >>> (y &&& 31)) :: st)) : AW G M Q b h pc lv (.int y :: .int x :: st) :=
  fun p l e s m args below meth c H locs cells slots ls ws C hP hD hL hS hc hs hl => lv_ishr C.1 C.2.1 hd (k p l e s m args below meth c H locs cells slots ls ws C hP hD hL hS hc hs hl)
theorem AW_iushr {x y : Int32} (hd : decode (mC M) pc = .ok (.iushr, 1)) (k : AW G M Q b h (pc + 1) lv (.int ((x.toUInt32 >>> (y.toUInt32 &&& Int32.toUInt32 31)).toInt32) :: st)) : AW G M Q b h pc lv (.int y :: .int x :: st) :=
  fun p l e s m args below meth c H locs cells slots ls ws C hP hD hL hS hc hs hl => lv_iushr C.1 C.2.1 hd rfl (k p l e s m args below meth c H locs cells slots ls ws C hP hD hL hS hc hs hl)
theorem AW_lshl {x : Int64} {y : Int32} (hd : decode (mC M) pc = .ok (.lshl, 1)) (k : AW G M Q b h (pc + 1) lv (.long (x <<< (y.toInt64 &&& 63)) :: st)) : AW G M Q b h pc lv (.int y :: .long x :: st) :=
  fun p l e s m args below meth c H locs cells slots ls ws C hP hD hL hS hc hs hl => lv_lshl C.1 C.2.1 hd rfl (k p l e s m args below meth c H locs cells slots ls ws C hP hD hL hS hc hs hl)
theorem AW_lshr {x : Int64} {y : Int32} (hd : decode (mC M) pc = .ok (.lshr, 1)) (k : AW G M Q b h (pc + 1) lv (.long (x >>> (y.toInt64 &&& 63)) :: st)) : AW G M Q b h pc lv (.int y :: .long x :: st) :=
  fun p l e s m args below meth c H locs cells slots ls ws C hP hD hL hS hc hs hl => lv_lshr C.1 C.2.1 hd rfl (k p l e s m args below meth c H locs cells slots ls ws C hP hD hL hS hc hs hl)
theorem AW_i2l {x : Int32} (hd : decode (mC M) pc = .ok (.i2l, 1)) (k : AW G M Q b h (pc + 1) lv (.long x.toInt64 :: st)) : AW G M Q b h pc lv (.int x :: st) :=
  fun p l e s m args below meth c H locs cells slots ls ws C hP hD hL hS hc hs hl => lv_i2l C.1 C.2.1 hd rfl (k p l e s m args below meth c H locs cells slots ls ws C hP hD hL hS hc hs hl)
theorem AW_l2i {x : Int64} (hd : decode (mC M) pc = .ok (.l2i, 1)) (k : AW G M Q b h (pc + 1) lv (.int x.toInt32 :: st)) : AW G M Q b h pc lv (.long x :: st) :=
  fun p l e s m args below meth c H locs cells slots ls ws C hP hD hL hS hc hs hl => lv_l2i C.1 C.2.1 hd rfl (k p l e s m args below meth c H locs cells slots ls ws C hP hD hL hS hc hs hl)
theorem AW_i2b {x : Int32} (hd : decode (mC M) pc = .ok (.i2b, 1)) (k : AW G M Q b h (pc + 1) lv (.int x.toInt8.toInt32 :: st)) : AW G M Q b h pc lv (.int x :: st) :=
  fun p l e s m args below meth c H locs cells slots ls ws C hP hD hL hS hc hs hl => lv_i2b C.1 C.2.1 hd rfl (k p l e s m args below meth c H locs cells slots ls ws C hP hD hL hS hc hs hl)
theorem AW_i2c {x : Int32} (hd : decode (mC M) pc = .ok (.i2c, 1)) (k : AW G M Q b h (pc + 1) lv (.int (x.toUInt32 % 65536).toInt32 :: st)) : AW G M Q b h pc lv (.int x :: st) :=
  fun p l e s m args below meth c H locs cells slots ls ws C hP hD hL hS hc hs hl => lv_i2c C.1 C.2.1 hd rfl (k p l e s m args below meth c H locs cells slots ls ws C hP hD hL hS hc hs hl)
theorem AW_lcmp {x y : Int64} (hd : decode (mC M) pc = .ok (.lcmp, 1)) (k : AW G M Q b h (pc + 1) lv (.int (lg_cmp x y) :: st)) : AW G M Q b h pc lv (.long y :: .long x :: st) :=
  fun p l e s m args below meth c H locs cells slots ls ws C hP hD hL hS hc hs hl => W.lcmp C.1 C.2.1 hd (k p l e s m args below meth c H locs cells slots ls ws C hP hD hL hS hc hs hl)
theorem AW_dup {va : Value} (hd : decode (mC M) pc = .ok (.dup, 1)) (hva : va.category = 1) (k : AW G M Q b h (pc + 1) lv (va :: va :: st)) : AW G M Q b h pc lv (va :: st) :=
  fun p l e s m args below meth c H locs cells slots ls ws C hP hD hL hS hc hs hl => lv_dup C.1 C.2.1 hd hva (k p l e s m args below meth c H locs cells slots ls ws C hP hD hL hS hc hs hl)
theorem AW_pop {va : Value} (hd : decode (mC M) pc = .ok (.pop, 1)) (hva : va.category = 1) (k : AW G M Q b h (pc + 1) lv (st)) : AW G M Q b h pc lv (va :: st) :=
  fun p l e s m args below meth c H locs cells slots ls ws C hP hD hL hS hc hs hl => lv_pop C.1 C.2.1 hd hva (k p l e s m args below meth c H locs cells slots ls ws C hP hD hL hS hc hs hl)
theorem AW_dup2 {va vb : Value} (hd : decode (mC M) pc = .ok (.dup2, 1)) (hva : va.category = 1) (hvb : vb.category = 1) (k : AW G M Q b h (pc + 1) lv (va :: vb :: va :: vb :: st)) : AW G M Q b h pc lv (va :: vb :: st) :=
  fun p l e s m args below meth c H locs cells slots ls ws C hP hD hL hS hc hs hl => lv_dup2_11 C.1 C.2.1 hd hva hvb (k p l e s m args below meth c H locs cells slots ls ws C hP hD hL hS hc hs hl)
theorem AW_null  (hd : decode (mC M) pc = .ok (.aconst_null, 1)) (k : AW G M Q b h (pc + 1) lv (.null :: st)) : AW G M Q b h pc lv (st) :=
  fun p l e s m args below meth c H locs cells slots ls ws C hP hD hL hS hc hs hl => lv_null C.1 C.2.1 hd (k p l e s m args below meth c H locs cells slots ls ws C hP hD hL hS hc hs hl)
theorem AW_icmp_eq {x y : Int32} {off : Int} {tgt : Nat} (hd : decode (mC M) pc = .ok (.if_icmp .eq off, 3)) (ht : (pc : Int) + off = (tgt : Int)) (kt : x = y → AW G M Q b h tgt lv st) (kf : ¬ x = y → AW G M Q b h (pc + 3) lv st) : AW G M Q b h pc lv (.int y :: .int x :: st) :=
  fun p l e s m args below meth c H locs cells slots ls ws C hP hD hL hS hc hs hl => lv_icmp_eq C.1 C.2.1 hd ht (fun z => kt z p l e s m args below meth c H locs cells slots ls ws C hP hD hL hS hc hs hl) (fun z => kf z p l e s m args below meth c H locs cells slots ls ws C hP hD hL hS hc hs hl)
theorem AW_if_eq {x : Int32} {off : Int} {tgt : Nat} (hd : decode (mC M) pc = .ok (.ifCond .eq off, 3)) (ht : (pc : Int) + off = (tgt : Int)) (kt : x = 0 → AW G M Q b h tgt lv st) (kf : ¬ x = 0 → AW G M Q b h (pc + 3) lv st) : AW G M Q b h pc lv (.int x :: st) :=
  fun p l e s m args below meth c H locs cells slots ls ws C hP hD hL hS hc hs hl => lv_if_eq C.1 C.2.1 hd ht (fun z => kt z p l e s m args below meth c H locs cells slots ls ws C hP hD hL hS hc hs hl) (fun z => kf z p l e s m args below meth c H locs cells slots ls ws C hP hD hL hS hc hs hl)
theorem AW_icmp_ne {x y : Int32} {off : Int} {tgt : Nat} (hd : decode (mC M) pc = .ok (.if_icmp .ne off, 3)) (ht : (pc : Int) + off = (tgt : Int)) (kt : ¬ x = y → AW G M Q b h tgt lv st) (kf : x = y → AW G M Q b h (pc + 3) lv st) : AW G M Q b h pc lv (.int y :: .int x :: st) :=
  fun p l e s m args below meth c H locs cells slots ls ws C hP hD hL hS hc hs hl => lv_icmp_ne C.1 C.2.1 hd ht (fun z => kt z p l e s m args below meth c H locs cells slots ls ws C hP hD hL hS hc hs hl) (fun z => kf z p l e s m args below meth c H locs cells slots ls ws C hP hD hL hS hc hs hl)
theorem AW_if_ne {x : Int32} {off : Int} {tgt : Nat} (hd : decode (mC M) pc = .ok (.ifCond .ne off, 3)) (ht : (pc : Int) + off = (tgt : Int)) (kt : ¬ x = 0 → AW G M Q b h tgt lv st) (kf : x = 0 → AW G M Q b h (pc + 3) lv st) : AW G M Q b h pc lv (.int x :: st) :=
  fun p l e s m args below meth c H locs cells slots ls ws C hP hD hL hS hc hs hl => lv_if_ne C.1 C.2.1 hd ht (fun z => kt z p l e s m args below meth c H locs cells slots ls ws C hP hD hL hS hc hs hl) (fun z => kf z p l e s m args below meth c H locs cells slots ls ws C hP hD hL hS hc hs hl)
theorem AW_icmp_lt {x y : Int32} {off : Int} {tgt : Nat} (hd : decode (mC M) pc = .ok (.if_icmp .lt off, 3)) (ht : (pc : Int) + off = (tgt : Int)) (kt : x < y → AW G M Q b h tgt lv st) (kf : ¬ x < y → AW G M Q b h (pc + 3) lv st) : AW G M Q b h pc lv (.int y :: .int x :: st) :=
  fun p l e s m args below meth c H locs cells slots ls ws C hP hD hL hS hc hs hl => lv_icmp_lt C.1 C.2.1 hd ht (fun z => kt z p l e s m args below meth c H locs cells slots ls ws C hP hD hL hS hc hs hl) (fun z => kf z p l e s m args below meth c H locs cells slots ls ws C hP hD hL hS hc hs hl)
theorem AW_if_lt {x : Int32} {off : Int} {tgt : Nat} (hd : decode (mC M) pc = .ok (.ifCond .lt off, 3)) (ht : (pc : Int) + off = (tgt : Int)) (kt : x < 0 → AW G M Q b h tgt lv st) (kf : ¬ x < 0 → AW G M Q b h (pc + 3) lv st) : AW G M Q b h pc lv (.int x :: st) :=
  fun p l e s m args below meth c H locs cells slots ls ws C hP hD hL hS hc hs hl => lv_if_lt C.1 C.2.1 hd ht (fun z => kt z p l e s m args below meth c H locs cells slots ls ws C hP hD hL hS hc hs hl) (fun z => kf z p l e s m args below meth c H locs cells slots ls ws C hP hD hL hS hc hs hl)
theorem AW_icmp_ge {x y : Int32} {off : Int} {tgt : Nat} (hd : decode (mC M) pc = .ok (.if_icmp .ge off, 3)) (ht : (pc : Int) + off = (tgt : Int)) (kt : y ≤ x → AW G M Q b h tgt lv st) (kf : ¬ y ≤ x → AW G M Q b h (pc + 3) lv st) : AW G M Q b h pc lv (.int y :: .int x :: st) :=
  fun p l e s m args below meth c H locs cells slots ls ws C hP hD hL hS hc hs hl => lv_icmp_ge C.1 C.2.1 hd ht (fun z => kt z p l e s m args below meth c H locs cells slots ls ws C hP hD hL hS hc hs hl) (fun z => kf z p l e s m args below meth c H locs cells slots ls ws C hP hD hL hS hc hs hl)
theorem AW_if_ge {x : Int32} {off : Int} {tgt : Nat} (hd : decode (mC M) pc = .ok (.ifCond .ge off, 3)) (ht : (pc : Int) + off = (tgt : Int)) (kt : 0 ≤ x → AW G M Q b h tgt lv st) (kf : ¬ 0 ≤ x → AW G M Q b h (pc + 3) lv st) : AW G M Q b h pc lv (.int x :: st) :=
  fun p l e s m args below meth c H locs cells slots ls ws C hP hD hL hS hc hs hl => lv_if_ge C.1 C.2.1 hd ht (fun z => kt z p l e s m args below meth c H locs cells slots ls ws C hP hD hL hS hc hs hl) (fun z => kf z p l e s m args below meth c H locs cells slots ls ws C hP hD hL hS hc hs hl)
theorem AW_icmp_gt {x y : Int32} {off : Int} {tgt : Nat} (hd : decode (mC M) pc = .ok (.if_icmp .gt off, 3)) (ht : (pc : Int) + off = (tgt : Int)) (kt : y < x → AW G M Q b h tgt lv st) (kf : ¬ y < x → AW G M Q b h (pc + 3) lv st) : AW G M Q b h pc lv (.int y :: .int x :: st) :=
  fun p l e s m args below meth c H locs cells slots ls ws C hP hD hL hS hc hs hl => lv_icmp_gt C.1 C.2.1 hd ht (fun z => kt z p l e s m args below meth c H locs cells slots ls ws C hP hD hL hS hc hs hl) (fun z => kf z p l e s m args below meth c H locs cells slots ls ws C hP hD hL hS hc hs hl)
theorem AW_if_gt {x : Int32} {off : Int} {tgt : Nat} (hd : decode (mC M) pc = .ok (.ifCond .gt off, 3)) (ht : (pc : Int) + off = (tgt : Int)) (kt : 0 < x → AW G M Q b h tgt lv st) (kf : ¬ 0 < x → AW G M Q b h (pc + 3) lv st) : AW G M Q b h pc lv (.int x :: st) :=
  fun p l e s m args below meth c H locs cells slots ls ws C hP hD hL hS hc hs hl => lv_if_gt C.1 C.2.1 hd ht (fun z => kt z p l e s m args below meth c H locs cells slots ls ws C hP hD hL hS hc hs hl) (fun z => kf z p l e s m args below meth c H locs cells slots ls ws C hP hD hL hS hc hs hl)
theorem AW_icmp_le {x y : Int32} {off : Int} {tgt : Nat} (hd : decode (mC M) pc = .ok (.if_icmp .le off, 3)) (ht : (pc : Int) + off = (tgt : Int)) (kt : x ≤ y → AW G M Q b h tgt lv st) (kf : ¬ x ≤ y → AW G M Q b h (pc + 3) lv st) : AW G M Q b h pc lv (.int y :: .int x :: st) :=
  fun p l e s m args below meth c H locs cells slots ls ws C hP hD hL hS hc hs hl => lv_icmp_le C.1 C.2.1 hd ht (fun z => kt z p l e s m args below meth c H locs cells slots ls ws C hP hD hL hS hc hs hl) (fun z => kf z p l e s m args below meth c H locs cells slots ls ws C hP hD hL hS hc hs hl)
theorem AW_if_le {x : Int32} {off : Int} {tgt : Nat} (hd : decode (mC M) pc = .ok (.ifCond .le off, 3)) (ht : (pc : Int) + off = (tgt : Int)) (kt : x ≤ 0 → AW G M Q b h tgt lv st) (kf : ¬ x ≤ 0 → AW G M Q b h (pc + 3) lv st) : AW G M Q b h pc lv (.int x :: st) :=
  fun p l e s m args below meth c H locs cells slots ls ws C hP hD hL hS hc hs hl => lv_if_le C.1 C.2.1 hd ht (fun z => kt z p l e s m args below meth c H locs cells slots ls ws C hP hD hL hS hc hs hl) (fun z => kf z p l e s m args below meth c H locs cells slots ls ws C hP hD hL hS hc hs hl)
theorem AW_goto {off : Int} {tgt : Nat} (hd : decode (mC M) pc = .ok (.goto off, 3)) (ht : (pc : Int) + off = (tgt : Int)) (k : AW G M Q b h tgt lv st) : AW G M Q b h pc lv st :=
  fun p l e s m args below meth c H locs cells slots ls ws C hP hD hL hS hc hs hl => lv_goto C.1 C.2.1 hd ht (k p l e s m args below meth c H locs cells slots ls ws C hP hD hL hS hc hs hl)
theorem AW_ifnonnull {x : Nat} {off : Int} {tgt : Nat} (hd : decode (mC M) pc = .ok (.ifnonnull off, 3)) (ht : (pc : Int) + off = (tgt : Int)) (k : AW G M Q b h tgt lv st) : AW G M Q b h pc lv (.ref x :: st) :=
  fun p l e s m args below meth c H locs cells slots ls ws C hP hD hL hS hc hs hl => lv_ifnonnull C.1 C.2.1 hd ht (k p l e s m args below meth c H locs cells slots ls ws C hP hD hL hS hc hs hl)
theorem AW_ifnonnullN {off : Int} (hd : decode (mC M) pc = .ok (.ifnonnull off, 3)) (k : AW G M Q b h (pc + 3) lv st) : AW G M Q b h pc lv (.null :: st) :=
  fun p l e s m args below meth c H locs cells slots ls ws C hP hD hL hS hc hs hl => lv_ifnonnullN C.1 C.2.1 hd (k p l e s m args below meth c H locs cells slots ls ws C hP hD hL hS hc hs hl)
theorem AW_tableIn {dflt lo hi : Int} {offs : Array Int} {len : Nat} {x : Int32} {off : Int} {tgt : Nat} (hd : decode (mC M) pc = .ok (.tableswitch dflt lo hi offs, len)) (h1 : ¬ x.toInt < lo) (h2 : ¬ hi < x.toInt) (ho : offs[(x.toInt - lo).toNat]? = some off) (ht : (pc : Int) + off = (tgt : Int)) (k : AW G M Q b h tgt lv st) : AW G M Q b h pc lv (.int x :: st) :=
  fun p l e s m args below meth c H locs cells slots ls ws C hP hD hL hS hc hs hl => lv_tableIn C.1 C.2.1 hd h1 h2 ho ht (k p l e s m args below meth c H locs cells slots ls ws C hP hD hL hS hc hs hl)
theorem AW_tableOut {dflt lo hi : Int} {offs : Array Int} {len : Nat} {x : Int32} {tgt : Nat} (hd : decode (mC M) pc = .ok (.tableswitch dflt lo hi offs, len)) (h1 : x.toInt < lo ∨ hi < x.toInt) (ht : (pc : Int) + dflt = (tgt : Int)) (k : AW G M Q b h tgt lv st) : AW G M Q b h pc lv (.int x :: st) :=
  fun p l e s m args below meth c H locs cells slots ls ws C hP hD hL hS hc hs hl => lv_tableOut C.1 C.2.1 hd h1 ht (k p l e s m args below meth c H locs cells slots ls ws C hP hD hL hS hc hs hl)
theorem AW_ldc {index : Nat} {v : Int32} (hw : Cond.constant (mY M).cls index v ∈ lw_all) (hd : decode (mC M) pc = .ok (.ldc index, 2)) (k : AW G M Q b h (pc + 2) lv (.int v :: st)) : AW G M Q b h pc lv st :=
  fun p l e s m args below meth c H locs cells slots ls ws C hP hD hL hS hc hs hl => lv_ldc C.1 C.2.1 C.2.2.2.2.2.1 (C.2.2.2.2.2.2.1 _ hw) hd (k p l e s m args below meth c H locs cells slots ls ws C hP hD hL hS hc hs hl)
theorem AW_ldcw {index : Nat} {v : Int32} (hw : Cond.constant (mY M).cls index v ∈ lw_all) (hd : decode (mC M) pc = .ok (.ldc_w index, 3)) (k : AW G M Q b h (pc + 3) lv (.int v :: st)) : AW G M Q b h pc lv st :=
  fun p l e s m args below meth c H locs cells slots ls ws C hP hD hL hS hc hs hl => lv_ldcw C.1 C.2.1 C.2.2.2.2.2.1 (C.2.2.2.2.2.2.1 _ hw) hd (k p l e s m args below meth c H locs cells slots ls ws C hP hD hL hS hc hs hl)
theorem AW_ldc2 {index : Nat} {v : Int64} (hw : Cond.constantLong (mY M).cls index v ∈ lw_all) (hd : decode (mC M) pc = .ok (.ldc2_w index, 3)) (k : AW G M Q b h (pc + 3) lv (.long v :: st)) : AW G M Q b h pc lv st :=
  fun p l e s m args below meth c H locs cells slots ls ws C hP hD hL hS hc hs hl => lv_ldc2 C.1 C.2.1 C.2.2.2.2.2.1 (C.2.2.2.2.2.2.1 _ hw) hd (k p l e s m args below meth c H locs cells slots ls ws C hP hD hL hS hc hs hl)
theorem AW_ldcS {i : Nat} {own tx : String} {index : Nat} (hi : strT[i]? = some (own, index, tx)) (ho : (mY M).cls = own) (hd : decode (mC M) pc = .ok (.ldc index, 2)) (k : AW G M Q b h (pc + 2) lv (.ref (gKs G i) :: st)) : AW G M Q b h pc lv st :=
  fun p l e s m args below meth c H locs cells slots ls ws C hP hD hL hS hc hs hl => va_ldcS C.1 C.2.1 (by rw [← ho]; exact C.2.2.2.2.2.1) (C.2.2.2.2.2.2.2.2.1.2.2.2 i _ hi) hd (k p l e s m args below meth c H locs cells slots ls ws C hP hD hL hS hc hs hl)
/-- the end of a method -/
theorem AW_iret {v : Int32} {ty : FieldType} (hr : mT M = some ty) (hn : narrow ty (.int v) = .int v) (hd : decode (mC M) pc = .ok (.ireturn, 1)) (hq : Q (.returned (some (.int v))) h) : AW G M Q b h pc lv [.int v] :=
  fun p l e s m args below meth c H locs cells slots ls ws C hP hD hL hS hc hs hl => W.widen (Nat.le_trans (Nat.le_add_right _ _) hc) (Nat.le_trans (Nat.le_add_right _ _) hs) (W.mono (fun t => MQX.of) (W.zret (Qc := fun _ => QcG G Q) C.1 C.2.1 (C.2.2.1.trans hr) hn (fun t ht hW => ⟨⟨h, hq, C.wd hP hD hL hS ht hW⟩, hS.F ht⟩) hS.2.2 hd C.2.2.2.1))
theorem AW_lret {v : Int64} (hr : mT M = some .long) (hd : decode (mC M) pc = .ok (.lreturn, 1)) (hq : Q (.returned (some (.long v))) h) : AW G M Q b h pc lv [.long v] :=
  fun p l e s m args below meth c H locs cells slots ls ws C hP hD hL hS hc hs hl => W.widen (Nat.le_trans (Nat.le_add_right _ _) hc) (Nat.le_trans (Nat.le_add_right _ _) hs) (W.mono (fun t => MQX.of) (W.lret (Qc := fun _ => QcG G Q) C.1 C.2.1 (C.2.2.1.trans hr) (fun t ht hW => ⟨⟨h, hq, C.wd hP hD hL hS ht hW⟩, hS.F ht⟩) hS.2.2 hd C.2.2.2.1))
theorem AW_vret (hr : mT M = none) (hd : decode (mC M) pc = .ok (.return_, 1)) (hq : Q (.returned none) h) : AW G M Q b h pc lv [] :=
  fun p l e s m args below meth c H locs cells slots ls ws C hP hD hL hS hc hs hl => W.widen (Nat.le_trans (Nat.le_add_right _ _) hc) (Nat.le_trans (Nat.le_add_right _ _) hs) (W.mono (fun t => MQX.of) (W.vret (Qc := fun _ => QcG G Q) C.1 C.2.1 (C.2.2.1.trans hr) (fun t ht hW => ⟨⟨h, hq, C.wd hP hD hL hS ht hW⟩, hS.F ht⟩) hS.2.2 hd C.2.2.2.1))
theorem AW_aret {v : Value} {rt : FieldType} (hr : mT M = some rt) (hrt : (∃ n, rt = .object n) ∨ ∃ t, rt = .array t) (hv : v = .null ∨ ∃ a, v = .ref a) (hd : decode (mC M) pc = .ok (.areturn, 1)) (hq : Q (.returned (some v)) h) : AW G M Q b h pc lv [v] :=
  fun p l e s m args below meth c H locs cells slots ls ws C hP hD hL hS hc hs hl => W.widen (Nat.le_trans (Nat.le_add_right _ _) hc) (Nat.le_trans (Nat.le_add_right _ _) hs) (W.mono (fun t => MQX.of) (W.aret (Qc := fun _ => QcG G Q) C.1 C.2.1 (C.2.2.1.trans hr) hrt hv (fun t ht hW => ⟨⟨h, hq, C.wd hP hD hL hS ht hW⟩, hS.F ht⟩) hS.2.2 hd C.2.2.2.1))
end AWR
