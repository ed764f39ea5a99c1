/-! ===== AW: new cells, library calls, contracts and calls ===== -/
section AWN
variable {G : Gl} {M : Mi} {Q : Outcome → Hp → Prop} {b : Nat × Nat} {h : Hp} {pc : Nat} {lv : List (Nat × Value)} {st : List Value}
theorem va_D.last {A : Nat → Prop} {ws : va_W} {a : Nat} {e : va_E} (h : va_D A (ws ++ [(a, e)])) : A a := h.2 ws.length (a, e) (by simp)
def okT (t : FieldType) : Bool := match t with
  | .int => true
  | .boolean => true
  | .long => true
  | .object _ => true
  | .array _ => true
  | _ => false
theorem fv_born {q ci k : Nat} (hk : okT (fty ci k) = true) (kd : Nat ⊕ (Nat × Nat)) : fv (sN h q kd) ci q k = defaultValue (fty ci k) := by
  unfold fv
  rw [xI_sN, xR_sN, xL_sN]
  cases e : fty ci k <;> rw [e] at hk <;> first | (simp [okT] at hk; done) | rfl | (simp [va_rf, defaultValue]; done)
theorem AW_new {ci : Nat} {C : String} {T : u_T} {N index b1 b2 : Nat} (hC : Cls ci C T N) (hz : (List.range N).all (fun k => okT (fty ci k)) = true) (hw1 : Cond.classLink (mY M).cls index C ∈ lw_all) (hw2 : Cond.instantiable C N ∈ lw_all) (hw3 : Cond.initialized C ∈ lw_all) (hd : decode (mC M) pc = .ok (.new index, 3)) (kk : ∀ q, xK h q = none → G.1 ≤ q → AW G M Q (b1, b2) (sN h q (.inl ci)) (pc + 3) lv (.ref q :: st)) : AW G M Q (b1 + 1, b2 + N) h pc lv st := by
  intro p l e s m args below meth c H locs cells slots ls ws X hP hD hL hS hc hs hl
  have X' := X
  obtain ⟨hx, hb, -, -, -, hown, hts, -, hX, -⟩ := X'
  dsimp only at hc hs
  have hzz : ∀ k, k < N → okT (fty ci k) = true := fun k hk => List.all_eq_true.mp hz k (List.mem_range.mpr hk)
  refine va_new hx hb hts hC.2.1 (fty ci) hC.2.2.1 hown (hts _ hw1) (hts _ hw2) (hts _ hw3) hX.2.1 hP hD hS (fun q z => Nat.le_trans hX.1 z) hC.1 (fs := (List.range N).map (fun k => defaultValue (fty ci k))) (fun j hj => by simp [vp_V, hj]) (by omega) (by omega) hd (fun q H1 hP1 hD1 hS1 => ?_)
  have e1 : (List.range N).map (fun k => defaultValue (fty ci k)) = flds (sN h q (.inl ci)) ci q := by
    unfold flds
    rw [hC.2.2.2.2]
    exact List.map_congr_left fun k hk => (fv_born (hzz k (List.mem_range.mp hk)) _).symm
  rw [e1] at hP1 hD1
  obtain ⟨hL1, hn⟩ := hL.push (f' := cellOf (gA G) (sN h q (.inl ci))) hD1 (cellOf_obj (by rw [xK_sN, if_pos rfl])) (fun _ => cellOf_sN)
  exact kk q (cellOf_none.mp hn) (va_D.last hD1) p l e s m args below meth c H1 locs (cells + 1) (slots + N) ls _ X hP1 hD1 hL1 hS1 (by dsimp only; omega) (by dsimp only; omega) hl
theorem AW_newa {t : Nat} {atype : ArrayType} {n : Int32} {N' b1 b2 : Nat} (hat : newarray.typeOf atype = aty t) (ht : t < 3) (hw : Cond.arrayClass (aty t) ∈ lw_all) (hn : ¬ n < 0) (hN : n.toNatClampNeg = N') (hbytes : N' * componentBytes (aty t) ≤ 536870912) (hd : decode (mC M) pc = .ok (.newarray atype, 2)) (kk : ∀ q, xK h q = none → G.1 ≤ q → AW G M Q (b1, b2) (sN h q (.inr (t, N'))) (pc + 2) lv (.ref q :: st)) : AW G M Q (b1 + 1, b2 + N') h pc lv (.int n :: st) := by
  intro p l e s m args below meth c H locs cells slots ls ws X hP hD hL hS hc hs hl
  have X' := X
  obtain ⟨hx, hb, -, -, -, hown, hts, -, hX, -⟩ := X'
  dsimp only at hc hs
  have hdef : defaultValue (aty t) = .int 0 := by
    match t, ht with
    | 0, _ => rfl
    | 1, _ => rfl
    | 2, _ => rfl
  refine va_newa hx hb (by rw [hat]; exact hts _ hw) hat hX.2.1 hP hD hS (fun q z => Nat.le_trans hX.1 z) (a0 := (N', .inl (fun _ => 0))) (fun cA => by rw [hdef]; rfl) hn hN hbytes (by omega) (by omega) hd (fun q cA H1 hK1 hP1 hD1 hS1 => ?_)
  have hcA : cA = gA G t := by
    have r1 := (hK1.2 (gTy G).length (cA, aty t) (by simp)).2
    have r2 := (hX.2.1.2 t _ (gTy_at (by omega))).2
    match t, ht with
    | 0, _ => exact Option.some.inj (Eq.trans (Eq.symm r1) r2)
    | 1, _ => exact Option.some.inj (Eq.trans (Eq.symm r1) r2)
    | 2, _ => exact Option.some.inj (Eq.trans (Eq.symm r1) r2)
  subst hcA
  have e1 : (fun _ => 0 : Nat → Int32) = xI (sN h q (.inr (t, N'))) q := by
    funext j
    rw [xI_sN, if_pos rfl]
  rw [e1] at hP1 hD1
  obtain ⟨hL1, hnn⟩ := hL.push (f' := cellOf (gA G) (sN h q (.inr (t, N')))) hD1 (cellOf_arr (by rw [xK_sN, if_pos rfl]) ht) (fun _ => cellOf_sN)
  exact kk q (cellOf_none.mp hnn) (va_D.last hD1) p l e s m args below meth c H1 locs (cells + 1) (slots + N') ls _ X hP1 hD1 hL1 hS1 (by dsimp only; omega) (by dsimp only; omega) hl
theorem AW_newq {t index : Nat} {E : String} {n : Int32} {N' b1 b2 : Nat} (hE : aty t = .object E) (ht : ¬ t < 3) (ht9 : t < 9) (hw : Cond.classLink (mY M).cls index E ∈ lw_all) (hw2 : Cond.arrayOver (.object E) ∈ lw_tbl) (hn : ¬ n < 0) (hN : n.toNatClampNeg = N') (hbytes : N' * 4 ≤ 536870912) (hd : decode (mC M) pc = .ok (.anewarray index, 3)) (kk : ∀ q, xK h q = none → G.1 ≤ q → AW G M Q (b1, b2) (sN h q (.inr (t, N'))) (pc + 3) lv (.ref q :: st)) : AW G M Q (b1 + 1, b2 + N') h pc lv (.int n :: st) := by
  intro p l e s m args below meth c H locs cells slots ls ws X hP hD hL hS hc hs hl
  have X' := X
  obtain ⟨hx, hb, -, -, -, hown, hts, -, hX, -⟩ := X'
  dsimp only at hc hs
  refine va_newq hx hb hown (hts _ hw) (hX.2.2.1 _ hw2 rfl) hX.2.1 hP hD hS (fun q z => Nat.le_trans hX.1 z) hn hN hbytes (by omega) (by omega) hd (fun q cA H1 hK1 hP1 hD1 hS1 => ?_)
  have hcA : cA = gA G t := by
    have r1 := (hK1.2 (gTy G).length (cA, .object E) (by simp)).2
    have r2 := (hX.2.1.2 t _ (gTy_at ht9)).2
    rw [hE] at r2
    obtain ⟨_, _, _, _, _, z1⟩ := r1
    obtain ⟨_, _, _, _, _, z2⟩ := r2
    exact Option.some.inj (Eq.trans (Eq.symm z1) z2)
  subst hcA
  have e1 : (fun _ => none : Nat → Option Nat) = xR (sN h q (.inr (t, N'))) q := by
    funext j
    rw [xR_sN, if_pos rfl]
  rw [e1] at hP1 hD1
  obtain ⟨hL1, hnn⟩ := hL.push (f' := cellOf (gA G) (sN h q (.inr (t, N')))) hD1 (cellOf_ref (by rw [xK_sN, if_pos rfl]) ht) (fun _ => cellOf_sN)
  exact kk q (cellOf_none.mp hnn) (va_D.last hD1) p l e s m args below meth c H1 locs (cells + 1) (slots + N') ls _ X hP1 hD1 hL1 hS1 (by dsimp only; omega) (by dsimp only; omega) hl
theorem AW_objInit {idx a : Nat} (hw1 : Cond.methodLink (mY M).cls idx Lib.objectInit ∈ lw_all) (hw2 : Cond.instanceMethod Lib.objectInit ∈ lw_all) (hw3 : Cond.code Lib.objectInit ⟨#[0xb1]⟩ 1 none ∈ lw_all) (hd : decode (mC M) pc = .ok (.invokespecial idx, 3)) (hR1 : 1 ≤ (mR M).frames) (hR2 : (st.map fun v => v.category).sum + 12 ≤ (mR M).locals) (kk : AW G M Q b h (pc + 3) lv st) : AW G M Q b h pc lv (.ref a :: st) := by
  intro p l e s m args below meth c H locs cells slots ls ws X hP hD hL hS hc hs hl
  have X' := X
  obtain ⟨hx, hb, -, -, hml, hown, hts, -, hX, -⟩ := X'
  exact W.objInit hx hb hown (hts _ hw1) (hts _ hw2) (hts _ hw3) rfl (by rw [hml]; exact hl.1) rfl hd hR1 (by show 2 * 0 + _ + 12 ≤ _; omega) (kk p l e s m args below meth c H locs cells slots ls ws X hP hD hL hS hc hs hl)
theorem AW_mmax {index : Nat} {x y : Int32} (hw1 : Cond.methodLink (mY M).cls index Lib.Math.max.name ∈ lw_all) (hw2 : Cond.static Lib.Math.max.name ∈ lw_all) (hw3 : Cond.initialized "java/lang/Math" ∈ lw_all) (hw4 : Cond.code Lib.Math.max.name Lib.Math.max.code 2 (some .int) ∈ lw_all) (hR1 : 1 ≤ (mR M).frames) (hR2 : (st.map fun v => v.category).sum + 13 ≤ (mR M).locals) (hd : decode (mC M) pc = .ok (.invokestatic index, 3)) (kk : AW G M Q b h (pc + 3) lv (.int (if x < y then y else x) :: st)) : AW G M Q b h pc lv (.int y :: .int x :: st) := by
  intro p l e s m args below meth c H locs cells slots ls ws X hP hD hL hS hc hs hl
  have X' := X
  obtain ⟨hx, hb, -, -, hml, hown, hts, -, hX, -⟩ := X'
  exact va_mmax hx hb (hml.trans hl.1.symm) hown (hts _ hw1) (hts _ hw2) (hts _ hw3) (hts _ hw4) hR1 hR2 (Nat.le_trans (Nat.le_add_right _ _) hc) (Nat.le_trans (Nat.le_add_right _ _) hs) hd (kk p l e s m args below meth c H locs cells slots ls ws X hP hD hL hS hc hs hl)
theorem AW_mmin {index : Nat} {x y : Int32} (hw1 : Cond.methodLink (mY M).cls index Lib.Math.min.name ∈ lw_all) (hw2 : Cond.static Lib.Math.min.name ∈ lw_all) (hw3 : Cond.initialized "java/lang/Math" ∈ lw_all) (hw4 : Cond.code Lib.Math.min.name Lib.Math.min.code 2 (some .int) ∈ lw_all) (hR1 : 1 ≤ (mR M).frames) (hR2 : (st.map fun v => v.category).sum + 13 ≤ (mR M).locals) (hd : decode (mC M) pc = .ok (.invokestatic index, 3)) (kk : AW G M Q b h (pc + 3) lv (.int (if y < x then y else x) :: st)) : AW G M Q b h pc lv (.int y :: .int x :: st) := by
  intro p l e s m args below meth c H locs cells slots ls ws X hP hD hL hS hc hs hl
  have X' := X
  obtain ⟨hx, hb, -, -, hml, hown, hts, -, hX, -⟩ := X'
  exact va_mmin hx hb (hml.trans hl.1.symm) hown (hts _ hw1) (hts _ hw2) (hts _ hw3) (hts _ hw4) hR1 hR2 (Nat.le_trans (Nat.le_add_right _ _) hc) (Nat.le_trans (Nat.le_add_right _ _) hs) hd (kk p l e s m args below meth c H locs cells slots ls ws X hP hD hL hS hc hs hl)
theorem AW_mabs {index : Nat} {x : Int32} (hw1 : Cond.methodLink (mY M).cls index Lib.Math.abs.name ∈ lw_all) (hw2 : Cond.static Lib.Math.abs.name ∈ lw_all) (hw3 : Cond.initialized "java/lang/Math" ∈ lw_all) (hw4 : Cond.code Lib.Math.abs.name Lib.Math.abs.code 1 (some .int) ∈ lw_all) (hR1 : 1 ≤ (mR M).frames) (hR2 : (st.map fun v => v.category).sum + 13 ≤ (mR M).locals) (hd : decode (mC M) pc = .ok (.invokestatic index, 3)) (kk : AW G M Q b h (pc + 3) lv (.int (if 0 ≤ x then x else 0 - x) :: st)) : AW G M Q b h pc lv (.int x :: st) := by
  intro p l e s m args below meth c H locs cells slots ls ws X hP hD hL hS hc hs hl
  have X' := X
  obtain ⟨hx, hb, -, -, hml, hown, hts, -, hX, -⟩ := X'
  exact va_mabs hx hb (hml.trans hl.1.symm) hown (hts _ hw1) (hts _ hw2) (hts _ hw3) (hts _ hw4) hR1 hR2 (Nat.le_trans (Nat.le_add_right _ _) hc) (Nat.le_trans (Nat.le_add_right _ _) hs) hd (kk p l e s m args below meth c H locs cells slots ls ws X hP hD hL hS hc hs hl)
/-- System.arraycopy between two arrays of the run, of one primitive type -/
theorem AW_copy {index a0 a t n0 n1 : Nat} {sp dp n : Int32} (hw1 : Cond.methodLink (mY M).cls index arraycopyName ∈ lw_all) (hw2 : Cond.native arraycopyName ∈ lw_all) (hw3 : Cond.static arraycopyName ∈ lw_all) (hw4 : Cond.initialized "java/lang/System" ∈ lw_all) (ht : t < 3) (hK0 : xK h a0 = some (.inr (t, n0))) (hK1 : xK h a = some (.inr (t, n1))) (h1 : ¬ sp < 0) (h2 : ¬ dp < 0) (h3 : ¬ n < 0) (h4 : sp.toNatClampNeg + n.toNatClampNeg ≤ n0) (h5 : dp.toNatClampNeg + n.toNatClampNeg ≤ n1) (hfit : ∀ i, i < n.toNatClampNeg → fits (aty t) (.int (xI h a0 (sp.toNatClampNeg + i))) = true) (hR1 : 1 ≤ (mR M).frames) (hR2 : (st.map fun v => v.category).sum + (nativeFrameWords "java/lang/System" "arraycopy" 5 + 11) ≤ (mR M).locals) (hd : decode (mC M) pc = .ok (.invokestatic index, 3)) (kk : AW G M Q b (sC h a0 sp.toNatClampNeg a dp.toNatClampNeg n.toNatClampNeg) (pc + 3) lv st) : AW G M Q b h pc lv (.int n :: .int dp :: .ref a :: .int sp :: .ref a0 :: st) := by
  intro p l e s m args below meth c H locs cells slots ls ws X hP hD hL hS hc hs hl
  have X' := X
  obtain ⟨hx, hb, -, -, hml, hown, hts, -, hX, -⟩ := X'
  obtain ⟨q0, hq0⟩ := (hL a0 _).mp (cellOf_arr hK0 ht)
  obtain ⟨q1, hq1⟩ := (hL a _).mp (cellOf_arr hK1 ht)
  refine va_copyi hx hb (hml.trans hl.1.symm) hown (hts _ hw1) (hts _ hw2) (hts _ hw3) (hts _ hw4) hX.2.1 hP hD hS q0 q1 t t (ty := aty t) hq0 hq1 (gTy_at (by omega)) (gTy_at (by omega)) (by match t, ht with
    | 0, _ => rfl
    | 1, _ => rfl
    | 2, _ => rfl) h1 h2 h3 h4 h5 hfit hR1 hR2 hd (fun H1 locs1 hP1 hD1 hS1 => ?_)
  have e1 : va_cpy (xI h a0) (xI h a) sp.toNatClampNeg dp.toNatClampNeg n.toNatClampNeg = xI (sC h a0 sp.toNatClampNeg a dp.toNatClampNeg n.toNatClampNeg) a := by
    funext j
    rw [xI_sC, if_pos rfl]
  rw [e1] at hP1 hD1
  exact kk p l e s m args below meth c H1 locs1 cells slots ls _ X hP1 hD1 (hL.set hD hq1 (cellOf_arr (by rw [xK_sC]; exact hK1) ht) (fun _ => cellOf_sC)) hS1 hc hs hl
theorem AW_castS {ci : Nat} {C : String} {T : u_T} {N index a : Nat} (hC : Cls ci C T N) (hw : Cond.classLink (mY M).cls index C ∈ lw_all) (hd : decode (mC M) pc = .ok (.checkcast index, 3)) (hK : xK h a = some (.inl ci)) (kk : AW G M Q b h (pc + 3) lv (.ref a :: st)) : AW G M Q b h pc lv (.ref a :: st) := by
  intro p l e s m args below meth c H locs cells slots ls ws X hP hD hL hS hc hs hl
  have X' := X
  obtain ⟨hx, hb, -, -, hml, hown, hts, -, hX, -⟩ := X'
  obtain ⟨q, hq⟩ := (hL a _).mp (cellOf_obj hK)
  exact va_castS hx hb hown (hts _ hw) (hX.2.1.1 ci _ hC.1).2 (va_recv hX.2.1 hP hC.1 hq) hd (kk p l e s m args below meth c H locs cells slots ls ws X hP hD hL hS hc hs hl)
end AWN
/-! contracts -/
def MQc (G : Gl) (Q : Option Value → Hp → Prop) : Array Value → State → Outcome → State → Prop := fun _ st oc t => (∃ (v : Option Value) (h' : Hp), oc = .returned v ∧ Q v h' ∧ Wd G h' t) ∧ va_F (gFr G) st t
/-- MC: the method M, called with these arguments at the heap h, answers v and leaves the heap h' with Q v h' -/
def MC (G : Gl) (M : Mi) (args : List Value) (h : Hp) (Q : Option Value → Hp → Prop) : Prop :=
  ∀ l : Launch, Met l (mY M) (ws_ (mY M) (mC M) (mL M) (mT M)) (mR M) (va_Pc args (Wd G h)) (MQc G Q) (mR M).cells (mR M).slots (gFr G)
theorem MC.mono {G : Gl} {M : Mi} {args : List Value} {h : Hp} {Q Q1 : Option Value → Hp → Prop} (k : MC G M args h Q1) (hQ : ∀ v h', Q1 v h' → Q v h') : MC G M args h Q := by
  intro l p e ha hc hk s m args' below hf happ hP hK
  obtain ⟨n, o, h1, h2, h3, ⟨⟨v, h', e1, e2, e3⟩, e4⟩, e5⟩ := k l p e ha hc hk s m args' below hf happ hP hK
  exact ⟨n, o, h1, h2, h3, ⟨⟨v, h', e1, hQ v h' e2, e3⟩, e4⟩, e5⟩
theorem MC.of {G : Gl} {M : Mi} {args : List Value} {h : Hp} {Q : Option Value → Hp → Prop} {lv : List (Nat × Value)} (hy : plainName (mY M).cls = true) (hn : (lg_sl args).length ≤ mL M) (hlv : lv_args 0 args = lv)
    (k : AW G M (fun oc h' => ∃ v, oc = .returned v ∧ Q v h') ((mR M).cells, (mR M).slots) h 0 lv []) : MC G M args h Q := by
  intro l
  subst hlv
  refine Met.ofW (cc := mC M) (maxL := mL M) (ret := mT M) hy rfl ?_
  intro p e s m args below meth c s₁ B hml hv
  obtain ⟨rfl, hX, hH, ws, hP, hD, hL⟩ := hv
  have hts := atoms_spec (ws := ws_ (mY M) (mC M) (mL M) (mT M)) B.pre
  have hts : ∀ w ∈ lw_all, w.before _ s = true := fun w h => hts w (List.mem_cons_of_mem _ h)
  have hl := lv_entry args (n := mL M) hn
  rw [lg_entry_eq]
  refine W.mono ?_ (k p l e s m args.toArray below meth c s.heap [] 0 0 _ ws ⟨B.exec, B.bytes, B.returns, B.notSynchronized, hml, findClass_of_methodNamed B.named, hts, (name_of_methodNamed B.named B.method).1, hX, hH⟩ hP hD hL va_S.rf (by dsimp only; omega) (by dsimp only; omega) hl)
  rintro t ⟨o, h1, h2, ⟨⟨h', ⟨v, rfl, hq⟩, hw⟩, hF⟩, L, h3, h4⟩
  exact ⟨_, h1, h2, ⟨⟨v, h', rfl, hq, hw⟩, hF⟩, L, ⟨⟨v, rfl⟩, h3⟩, h4⟩
theorem Wd.calling {G : Gl} {h : Hp} {U : State} (W0 : Wd G h U) (g : JFrame) (mk : MethodId) (a : Array Value) : Wd G h (U.calling g mk a) :=
  ⟨gX.warm (s := U) (U := U.calling g mk a) (Nat.le_refl _) (State.WarmedH.refl U) W0.1, gH.moved (u := U) (U := U.calling g mk a) (Vm.Alike.refl U.vm) W0.2.1, W0.2.2⟩
theorem Wd.blind {G : Gl} {h : Hp} {args : List Value} : FrameBlind (va_Pc args (Wd G h)) := fun _ _ g mk ⟨h1, h2⟩ => ⟨h1, h2.calling g mk _⟩
section AWC
variable {G : Gl} {M : Mi} {Q : Outcome → Hp → Prop} {b b' : Nat × Nat} {h : Hp} {pc : Nat} {lv : List (Nat × Value)} {st : List Value}
theorem run_go {p : Program} {l : Launch} {e : Env} {R : Room} {s : State} {m : MethodId} {args : Array Value} {below : List Frame} {meth : Method} {c : Code} {H : Heap} {locs : List Loc} {cells slots mc ms : Nat} {Q2 : State → Prop} {ls : Array Slot} {st0 rest : List Value} {a : Array Value} {Q1 : Option Value → Hp → Prop}
    (hr : va_Run p l e R s m args below meth c H locs cells slots mc ms (F0 m pc ls st0) rest (MQc G Q1 a) (gFr G)) (hS : va_S (gFr G) s.heap H locs)
    (kk : ∀ (v : Option Value) (h' : Hp) (H1 : Heap) (locs1 : List Loc) (ws1 : va_W), Q1 v h' → va_P (gD G) vwCl ws1 H1 → va_D (gFr G) ws1 → Lk ws1 (cellOf (gA G) h') → va_S (gFr G) s.heap H1 locs1 → W p l e R s m args below meth c H1 locs1 (cells + mc) (slots + ms) Q2 (F0 m (pc + 3) ls (v.toList ++ rest))) :
    W p l e R s m args below meth c H locs cells slots Q2 (F0 m pc ls st0) := by
  intro T hT X
  obtain ⟨v, st₀, t, T', L, h0, X', hL, e1, e2, ⟨⟨v', h', hv, hq, hw⟩, hz, hk⟩, step⟩ := hr T hT X
  cases hv
  rw [h0] at hz hk
  obtain ⟨-, -, ws1, hP1, hD1, hL1⟩ := hw
  rw [← e1] at hP1
  obtain ⟨t2, a1, b1⟩ := kk v h' T'.heap (locs ++ L) ws1 hq hP1 hD1 hL1 ⟨Nat.le_trans hS.1 (by rw [e1]; exact hz), fun q h1 h2 => by rw [e1, hk q (Nat.lt_of_lt_of_le h1 hS.1) h2]; exact hS.2.1 q h1 h2, fun q hq => by
      rcases List.mem_append.mp hq with h | h
      · exact hS.2.2 q h
      · exact hL q h⟩ T' rfl X'
  exact ⟨t2, step t2 a1, b1⟩
/-- the room that a callee needs -/
def Rm (M M' : Mi) : Prop := (mR M').frames + 1 ≤ (mR M).frames ∧ 8 + (mL M' + 11) + (mR M').locals ≤ (mR M).locals
/-- what is asked of a callee's name and number of arguments -/
def Nm (y : MethodName) (n : Nat) : Prop := y.cls ≠ "java/lang/invoke/MethodHandle" ∧ y.cls ≠ "java/lang/invoke/VarHandle" ∧ (parseMethodDescriptor y.desc).map (fun d => d.parameters.length) = some n
/-- a link to a method: own, or a nest mate's -/
def ML (own : String) (idx : Nat) (y : MethodName) : Prop := Cond.methodLink own idx y ∈ lw_all ∨ ∃ host, Cond.methodLinkNest own idx y host ∈ lw_tbl
theorem ML.o {own : String} {idx : Nat} {y : MethodName} (h : Cond.methodLink own idx y ∈ lw_all) : ML own idx y := Or.inl h
theorem ML.n {own : String} {idx : Nat} {y : MethodName} {host : String} (h : Cond.methodLinkNest own idx y host ∈ lw_tbl) : ML own idx y := Or.inr ⟨host, h⟩
theorem AW_callV {M' : Mi} {ci : Nat} {C : String} {T : u_T} {N index a n : Nat} {Q1 : Option Value → Hp → Prop} (As rest : List Value) (hC : Cls ci C T N) (hy : (mY M').cls = C) (hN : Nm (mY M') n) (hl1 : ML (mY M).cls index (mY M')) (hw2 : Cond.instanceMethod (mY M') ∈ lw_all) (hw3 : Cond.selects C (mY M') (mY M') ∈ lw_all) (hw4 : Cond.initialized C ∈ lw_all) (hw5 : Cond.code (mY M') (mC M') (mL M') (mT M') ∈ lw_all) (hd : decode (mC M) pc = .ok (.invokevirtual index, 3)) (hK : xK h a = some (.inl ci)) (hM : MC G M' (.ref a :: As) h Q1) (hst : st = As.reverse ++ .ref a :: rest) (hn : As.length = n) (hr : (rest.map fun v => v.category).sum ≤ 8) (hR : Rm M M') (hb1 : b'.1 + (mR M').cells ≤ b.1) (hb2 : b'.2 + (mR M').slots ≤ b.2)
    (kk : ∀ v h', Q1 v h' → AW G M Q b' h' (pc + 3) lv (v.toList ++ rest)) : AW G M Q b h pc lv st := by
  intro p l e s m args below meth c H locs cells slots ls ws X hP hD hL hS hc hs hl
  have X' := X
  obtain ⟨hx, hb, -, -, hml, hown, hts, -, hX, -⟩ := X'
  obtain ⟨q, hq⟩ := (hL a _).mp (cellOf_obj hK)
  subst hst
  have hfix : CallFix p m c (mC M) (mL M) s args lw_all (mY M).cls := ⟨hx, hb, hml, hown, hts⟩
  have hpre : PreV s H C a (va_Pc (.ref a :: As) (Wd G h)) As := ⟨Wd.blind, va_recv hX.2.1 hP hC.1 hq, fun U hU hW => ⟨rfl, X.wd hP hD hL hS hU hW⟩⟩
  have hf : cells + (mR M').cells ≤ (mR M).cells ∧ slots + (mR M').slots ≤ (mR M).slots := by omega
  refine run_go (mc := (mR M').cells) (ms := (mR M').slots) (a := (Value.ref a :: As).toArray) ?_ hS (fun v h' H1 locs1 ws1 hq1 hP1 hD1 hL1 hS1 => kk v h' hq1 p l e s m args below meth c H1 locs1 _ _ ls ws1 X hP1 hD1 hL1 hS1 (by omega) (by omega) hl)
  rcases hl1 with hw1 | ⟨host, hw1⟩
  · exact va_runV hfix (hM l) (cwV n hts (lw_V hw1 hw2 hw3 hw4 hw5) rfl rfl rfl ⟨hy, hN⟩ hR) hpre rfl hn hl.1 rfl (lv_room hr) hd hf
  · exact va_runVN hfix (hM l) ⟨va_cnB n hts (lw_meth hw5) rfl rfl rfl (hX.2.2.1 _ hw1 rfl) (hts _ (by rw [hy]; exact hw4)) hN hR, hts _ hw2, hts _ hw3⟩ hpre rfl hn hl.1 rfl (lv_room hr) hd hf
theorem AW_callS {M' : Mi} {index n : Nat} {Q1 : Option Value → Hp → Prop} (As rest : List Value) (hN : Nm (mY M') n) (hl1 : ML (mY M).cls index (mY M')) (hw2 : Cond.static (mY M') ∈ lw_all) (hw4 : Cond.initialized (mY M').cls ∈ lw_all) (hw5 : Cond.code (mY M') (mC M') (mL M') (mT M') ∈ lw_all) (hd : decode (mC M) pc = .ok (.invokestatic index, 3)) (hM : MC G M' As h Q1) (hst : st = As.reverse ++ rest) (hn : As.length = n) (hr : (rest.map fun v => v.category).sum ≤ 8) (hR : Rm M M') (hb1 : b'.1 + (mR M').cells ≤ b.1) (hb2 : b'.2 + (mR M').slots ≤ b.2)
    (kk : ∀ v h', Q1 v h' → AW G M Q b' h' (pc + 3) lv (v.toList ++ rest)) : AW G M Q b h pc lv st := by
  intro p l e s m args below meth c H locs cells slots ls ws X hP hD hL hS hc hs hl
  have X' := X
  obtain ⟨hx, hb, -, -, hml, hown, hts, -, hX, -⟩ := X'
  subst hst
  have hfix : CallFix p m c (mC M) (mL M) s args lw_all (mY M).cls := ⟨hx, hb, hml, hown, hts⟩
  have hpre : PreS s H (va_Pc As (Wd G h)) As := ⟨Wd.blind, fun U hU hW => ⟨rfl, X.wd hP hD hL hS hU hW⟩⟩
  have hf : cells + (mR M').cells ≤ (mR M).cells ∧ slots + (mR M').slots ≤ (mR M).slots := by omega
  refine run_go (mc := (mR M').cells) (ms := (mR M').slots) (a := As.toArray) ?_ hS (fun v h' H1 locs1 ws1 hq1 hP1 hD1 hL1 hS1 => kk v h' hq1 p l e s m args below meth c H1 locs1 _ _ ls ws1 X hP1 hD1 hL1 hS1 (by omega) (by omega) hl)
  rcases hl1 with hw1 | ⟨host, hw1⟩
  · exact va_runS hfix (hM l) (va_cwS n hts (lw_S hw1 hw2 hw4 hw5) rfl rfl rfl hN hR) hpre rfl hn hl.1 rfl (lv_room hr) hd hf
  · exact va_runSN hfix (hM l) ⟨va_cnB n hts (lw_meth hw5) rfl rfl rfl (hX.2.2.1 _ hw1 rfl) (hts _ hw4) hN hR, hts _ hw2, trivial⟩ hpre rfl hn hl.1 rfl (lv_room hr) hd hf
theorem AW_callI {M' : Mi} {index a n : Nat} {Q1 : Option Value → Hp → Prop} (As rest : List Value) (hN : Nm (mY M') n) (hi : (mY M').name = "<init>") (hT : mT M' = none) (hl1 : ML (mY M).cls index (mY M')) (hw2 : Cond.instanceMethod (mY M') ∈ lw_all) (hw4 : Cond.initialized (mY M').cls ∈ lw_all) (hw5 : Cond.code (mY M') (mC M') (mL M') none ∈ lw_all) (hd : decode (mC M) pc = .ok (.invokespecial index, 3)) (hM : MC G M' (.ref a :: As) h Q1) (hst : st = As.reverse ++ .ref a :: rest) (hn : As.length = n) (hr : (rest.map fun v => v.category).sum ≤ 8) (hR : Rm M M') (hb1 : b'.1 + (mR M').cells ≤ b.1) (hb2 : b'.2 + (mR M').slots ≤ b.2)
    (kk : ∀ v h', Q1 v h' → AW G M Q b' h' (pc + 3) lv (v.toList ++ rest)) : AW G M Q b h pc lv st := by
  intro p l e s m args below meth c H locs cells slots ls ws X hP hD hL hS hc hs hl
  have X' := X
  obtain ⟨hx, hb, -, -, hml, hown, hts, -, hX, -⟩ := X'
  subst hst
  have hMl := hM l
  rw [hT] at hMl
  have hfix : CallFix p m c (mC M) (mL M) s args lw_all (mY M).cls := ⟨hx, hb, hml, hown, hts⟩
  have hpre : PreS s H (va_Pc (.ref a :: As) (Wd G h)) (.ref a :: As) := ⟨Wd.blind, fun U hU hW => ⟨rfl, X.wd hP hD hL hS hU hW⟩⟩
  have hf : cells + (mR M').cells ≤ (mR M).cells ∧ slots + (mR M').slots ≤ (mR M).slots := by omega
  refine run_go (mc := (mR M').cells) (ms := (mR M').slots) (a := (Value.ref a :: As).toArray) ?_ hS (fun v h' H1 locs1 ws1 hq1 hP1 hD1 hL1 hS1 => kk v h' hq1 p l e s m args below meth c H1 locs1 _ _ ls ws1 X hP1 hD1 hL1 hS1 (by omega) (by omega) hl)
  rcases hl1 with hw1 | ⟨host, hw1⟩
  · exact va_runI hfix hMl (cwI n hts (lw_meth hw5) rfl rfl rfl (hts _ hw4) (hts _ hw1) (hts _ hw2) hi hN hR) hpre rfl hn hl.1 rfl (lv_room hr) hd hf
  · exact va_runIN hfix hMl ⟨va_cnB n hts (lw_meth hw5) rfl rfl rfl (hX.2.2.1 _ hw1 rfl) (hts _ hw4) hN hR, hi, hts _ hw2⟩ hpre rfl hn hl.1 rfl (lv_room hr) hd hf
/-- x is named, the receiver's class C selects M' -/
theorem AW_callU {M' : Mi} {ci : Nat} {C owner : String} {T : u_T} {N index a n : Nat} {x : MethodName} {Q1 : Option Value → Hp → Prop} (As rest : List Value) (hC : Cls ci C T N) (ho : owner ≠ "java/lang/invoke/MethodHandle" ∧ owner ≠ "java/lang/invoke/VarHandle" ∧ (parseMethodDescriptor x.desc).map (fun d => d.parameters.length) = some n) (hw1 : Cond.methodLink (mY M).cls index x ∈ lw_all) (hw2 : Cond.sameMethod x.cls owner x.name x.desc ∈ lw_all) (hdec : Cond.declares ⟨owner, x.name, x.desc⟩ ∈ lw_tbl ∨ (Cond.instanceMethod ⟨owner, x.name, x.desc⟩ ∈ lw_all ∧ ∃ b0 m0 r0, Cond.code ⟨owner, x.name, x.desc⟩ b0 m0 r0 ∈ lw_all)) (hw3 : Cond.selects C x (mY M') ∈ lw_all) (hw4 : Cond.instanceMethod (mY M') ∈ lw_all) (hw5 : Cond.initialized (mY M').cls ∈ lw_all) (hw6 : Cond.code (mY M') (mC M') (mL M') (mT M') ∈ lw_all) (hd : decode (mC M) pc = .ok (.invokevirtual index, 3)) (hK : xK h a = some (.inl ci)) (hM : MC G M' (.ref a :: As) h Q1) (hst : st = As.reverse ++ .ref a :: rest) (hn : As.length = n) (hr : (rest.map fun v => v.category).sum ≤ 8) (hR : Rm M M') (hb1 : b'.1 + (mR M').cells ≤ b.1) (hb2 : b'.2 + (mR M').slots ≤ b.2)
    (kk : ∀ v h', Q1 v h' → AW G M Q b' h' (pc + 3) lv (v.toList ++ rest)) : AW G M Q b h pc lv st := by
  intro p l e s m args below meth c H locs cells slots ls ws X hP hD hL hS hc hs hl
  have X' := X
  obtain ⟨hx, hb, -, -, hml, hown, hts, -, hX, -⟩ := X'
  obtain ⟨q, hq⟩ := (hL a _).mp (cellOf_obj hK)
  subst hst
  have hfix : CallFix p m c (mC M) (mL M) s args lw_all (mY M).cls := ⟨hx, hb, hml, hown, hts⟩
  have hpre : PreV s H C a (va_Pc (.ref a :: As) (Wd G h)) As := ⟨Wd.blind, va_recv hX.2.1 hP hC.1 hq, fun U hU hW => ⟨rfl, X.wd hP hD hL hS hU hW⟩⟩
  have hf : cells + (mR M').cells ≤ (mR M).cells ∧ slots + (mR M').slots ≤ (mR M).slots := by omega
  refine run_go (mc := (mR M').cells) (ms := (mR M').slots) (a := (Value.ref a :: As).toArray) ?_ hS (fun v h' H1 locs1 ws1 hq1 hP1 hD1 hL1 hS1 => kk v h' hq1 p l e s m args below meth c H1 locs1 _ _ ls ws1 X hP1 hD1 hL1 hS1 (by omega) (by omega) hl)
  have hdecl : va_Decl s ⟨owner, x.name, x.desc⟩ := by
    rcases hdec with hz | ⟨hz1, b0, m0, r0, hz2⟩
    · exact va_Decl.abs (hX.2.2.1 _ hz rfl)
    · exact va_Decl.of (hts _ hz1) (hts _ hz2)
  have hlen : ∀ sig, parseMethodDescriptor x.desc = some sig → n = sig.parameters.length := fun sig hz => by
    have h2 := ho.2.2
    rw [hz] at h2
    exact (Option.some.inj h2).symm
  have cu : va_CU (mR M) s args (mY M).cls C owner index x (mY M') (mC M') (mL M') (mT M') (ws_ (mY M') (mC M') (mL M') (mT M')) (mR M') (mR M').cells (mR M').slots n :=
    ⟨⟨rfl, rfl, hR.1, hR.2, pay_in hts (lw_meth hw6), List.mem_cons_self⟩, hts _ hw6, hts _ hw5, ⟨ho.1, ho.2.1⟩, hlen, hts _ hw1, hts _ hw2, hdecl, hts _ hw3, hts _ hw4⟩
  exact va_runU hfix (hM l) cu hpre rfl hn hl.1 rfl (lv_room hr) hd hf
/-- super.m(..) -/
theorem AW_callSU {M' : Mi} {ci : Nat} {C : String} {T : u_T} {N index a n : Nat} {Q1 : Option Value → Hp → Prop} (As rest : List Value) (hC : Cls ci C T N) (ho : (mY M').name ≠ "<init>" ∧ (parseMethodDescriptor (mY M').desc).map (fun d => d.parameters.length) = some n) (hw1 : Cond.methodLink (mY M).cls index (mY M') ∈ lw_all) (hw2 : Cond.sameMethod (mY M').cls (mY M').cls (mY M').name (mY M').desc ∈ lw_all) (hw3 : Cond.superclass (mY M).cls (mY M').cls ∈ lw_all) (hw4 : Cond.instanceMethod (mY M') ∈ lw_all) (hw5 : Cond.initialized (mY M').cls ∈ lw_all) (hw6 : Cond.code (mY M') (mC M') (mL M') (mT M') ∈ lw_all) (hd : decode (mC M) pc = .ok (.invokespecial index, 3)) (hK : xK h a = some (.inl ci)) (hM : MC G M' (.ref a :: As) h Q1) (hst : st = As.reverse ++ .ref a :: rest) (hn : As.length = n) (hr : (rest.map fun v => v.category).sum ≤ 8) (hR : Rm M M') (hb1 : b'.1 + (mR M').cells ≤ b.1) (hb2 : b'.2 + (mR M').slots ≤ b.2)
    (kk : ∀ v h', Q1 v h' → AW G M Q b' h' (pc + 3) lv (v.toList ++ rest)) : AW G M Q b h pc lv st := by
  intro p l e s m args below meth c H locs cells slots ls ws X hP hD hL hS hc hs hl
  have X' := X
  obtain ⟨hx, hb, -, -, hml, hown, hts, -, hX, -⟩ := X'
  obtain ⟨q, hq⟩ := (hL a _).mp (cellOf_obj hK)
  subst hst
  have hfix : CallFix p m c (mC M) (mL M) s args lw_all (mY M).cls := ⟨hx, hb, hml, hown, hts⟩
  have hpre : PreV s H C a (va_Pc (.ref a :: As) (Wd G h)) As := ⟨Wd.blind, va_recv hX.2.1 hP hC.1 hq, fun U hU hW => ⟨rfl, X.wd hP hD hL hS hU hW⟩⟩
  have hf : cells + (mR M').cells ≤ (mR M).cells ∧ slots + (mR M').slots ≤ (mR M).slots := by omega
  refine run_go (mc := (mR M').cells) (ms := (mR M').slots) (a := (Value.ref a :: As).toArray) ?_ hS (fun v h' H1 locs1 ws1 hq1 hP1 hD1 hL1 hS1 => kk v h' hq1 p l e s m args below meth c H1 locs1 _ _ ls ws1 X hP1 hD1 hL1 hS1 (by omega) (by omega) hl)
  have hlen : ∀ sig, parseMethodDescriptor (mY M').desc = some sig → n = sig.parameters.length := fun sig hz => by
    have h2 := ho.2
    rw [hz] at h2
    exact (Option.some.inj h2).symm
  have cs : va_CS (mR M) s args (mY M).cls index (mY M') (mC M') (mL M') (mT M') (ws_ (mY M') (mC M') (mL M') (mT M')) (mR M') (mR M').cells (mR M').slots n :=
    ⟨⟨rfl, rfl, hR.1, hR.2, pay_in hts (lw_meth hw6), List.mem_cons_self⟩, hts _ hw1, hts _ hw2, hts _ hw3, hts _ hw4, hts _ hw5, hts _ hw6, ho.1, hlen⟩
  exact va_runSU (hX.2.1.1 ci _ hC.1).2 hfix (hM l) cs hpre rfl hn hl.1 rfl (lv_room hr) hd hf
end AWC
