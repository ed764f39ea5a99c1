/-! ===== the reference: its plain state and the judgement AWT (printed by gen_t.py) ===== -/
/-- the array fields: type and length -/
def tLn (k : Nat) : Nat × Nat := match k with
  | 3 => (0, 8)
  | 4 => (0, 8)
  | 5 => (0, 8)
  | 9 => (0, 72)
  | 11 => (0, 4)
  | 13 => (0, 160)
  | 15 => (0, 161)
  | 16 => (0, 161)
  | 17 => (0, 161)
  | 20 => (0, 23)
  | 22 => (0, 138)
  | 23 => (0, 5)
  | 24 => (0, 1000)
  | 25 => (0, 1000)
  | 26 => (2, 1000)
  | 29 => (0, 6)
  | 30 => (0, 5)
  | 32 => (0, 5)
  | 33 => (0, 5)
  | 34 => (2, 5)
  | 35 => (0, 12)
  | 37 => (0, 4)
  | 38 => (0, 8)
  | _ => (9, 0)
abbrev tLen (k : Nat) : Nat := (tLn k).2
def tA (k : Nat) : Bool := decide ((tLn k).1 < 3)
abbrev Tf : Type := Nat → Int32
abbrev Tg : Type := Nat → Nat → Int32
abbrev Te : Type := Nat → Int64
def TS (o : Nat) (ad : Nat → Nat) (h : Hp) : Prop := xK h o = some (.inl 9) ∧ (∀ k, tA k = true → xR h o k = some (ad k) ∧ xK h (ad k) = some (.inr (tLn k))) ∧ (∀ j k, tA j = true → tA k = true → ad j = ad k → j = k)
def Off (o : Nat) (ad : Nat → Nat) (h0 h : Hp) : Prop := (∀ a, xK h a = xK h0 a) ∧ (∀ a k, xR h a k = xR h0 a k) ∧ (∀ a, a ≠ o → (∀ k, tA k = true → a ≠ ad k) → ∀ j, xI h a j = xI h0 a j) ∧ (∀ a, a ≠ o → ∀ j, xL h a j = xL h0 a j)
def TRep (o : Nat) (ad : Nat → Nat) (f : Tf) (g : Tg) (e : Te) (h0 h : Hp) : Prop := TS o ad h ∧ (∀ k, xI h o k = f k) ∧ (∀ k, tA k = true → ∀ i, xI h (ad k) i = g k i) ∧ (∀ k, xL h o k = e k) ∧ Off o ad h0 h
def uL (e : Te) (k : Nat) (v : Int64) : Te := fun j => if j = k then v else e j
theorem TS.ne {o : Nat} {ad : Nat → Nat} {h : Hp} (t : TS o ad h) {k : Nat} (hk : tA k = true) : ad k ≠ o := fun z => by
  have h1 := (t.2.1 k hk).2
  rw [z, t.1] at h1
  cases h1
theorem TRep.put {o : Nat} {ad : Nat → Nat} {f : Tf} {g : Tg} {e : Te} {h0 h : Hp} (t : TRep o ad f g e h0 h) (k : Nat) (v : Int32) : TRep o ad (upd f k v) g e h0 (sI h o k v) := by
  obtain ⟨t1, t2, t3, t4, t5⟩ := t
  refine ⟨t1, fun j => ?_, fun j hj i => ?_, t4, t5.1, t5.2.1, fun a ha hk j => ?_, t5.2.2.2⟩
  · rw [xI_sI]
    unfold upd
    by_cases hj : j = k
    · simp [hj]
    · simp [hj, t2]
  · rw [xI_sI, if_neg (fun z => t1.ne hj z.1)]
    exact t3 j hj i
  · rw [xI_sI, if_neg (fun z => ha z.1)]
    exact t5.2.2.1 a ha hk j
theorem TRep.putL {o : Nat} {ad : Nat → Nat} {f : Tf} {g : Tg} {e : Te} {h0 h : Hp} (t : TRep o ad f g e h0 h) (k : Nat) (v : Int64) : TRep o ad f g (uL e k v) h0 (sL h o k v) := by
  obtain ⟨t1, t2, t3, t4, t5⟩ := t
  refine ⟨t1, t2, t3, fun j => ?_, t5.1, t5.2.1, t5.2.2.1, fun a ha j => ?_⟩
  · rw [xL_sL]
    unfold uL
    by_cases hj : j = k
    · simp [hj]
    · simp [hj, t4]
  · rw [xL_sL, if_neg (fun z => ha z.1)]
    exact t5.2.2.2 a ha j
theorem TRep.ast {o : Nat} {ad : Nat → Nat} {f : Tf} {g : Tg} {e : Te} {h0 h : Hp} (t : TRep o ad f g e h0 h) {k : Nat} (hk : tA k = true) (i : Nat) (v : Int32) : TRep o ad f (up2 g k i v) e h0 (sI h (ad k) i v) := by
  obtain ⟨t1, t2, t3, t4, t5⟩ := t
  refine ⟨t1, fun j => ?_, fun j hj n => ?_, t4, t5.1, t5.2.1, fun a ha hk2 j => ?_, t5.2.2.2⟩
  · rw [xI_sI, if_neg (fun z => t1.ne hk z.1.symm)]
    exact t2 j
  · rw [xI_sI]
    unfold up2
    by_cases hjk : j = k
    · subst hjk
      simp [t3 j hj n]
    · have hne : ad j ≠ ad k := fun z => hjk (t1.2.2 j k hj hk z)
      simp [hne, hjk, t3 j hj n]
  · rw [xI_sI, if_neg (fun z => hk2 k hk z.1)]
    exact t5.2.2.1 a ha hk2 j
/-- AWT: as AW, over the reference's plain state -/
def AWT (G : Gl) (o : Nat) (ad : Nat → Nat) (h0 : Hp) (M : Mi) (Q : Option Value → Tf → Tg → Te → Prop) (f : Tf) (g : Tg) (e : Te) (pc : Nat) (lv : List (Nat × Value)) (st : List Value) : Prop :=
  ∀ h, TRep o ad f g e h0 h → AW G M (fun oc h' => ∃ v, oc = .returned v ∧ ∃ f' g' e', TRep o ad f' g' e' h0 h' ∧ Q v f' g' e') (0, 0) h pc lv st
def MCT (G : Gl) (o : Nat) (ad : Nat → Nat) (M : Mi) (args : List Value) (f : Tf) (g : Tg) (e : Te) (Q : Option Value → Tf → Tg → Te → Prop) : Prop :=
  ∀ h0 h, TRep o ad f g e h0 h → MC G M args h (fun v h' => ∃ f' g' e', TRep o ad f' g' e' h0 h' ∧ Q v f' g' e')
section AWT
variable {G : Gl} {o : Nat} {ad : Nat → Nat} {h0 : Hp} {M : Mi} {Q : Option Value → Tf → Tg → Te → Prop} {f : Tf} {g : Tg} {e : Te} {pc : Nat} {lv : List (Nat × Value)} {st : List Value}
theorem MCT.of {args : List Value} (hz : (mR M).cells = 0 ∧ (mR M).slots = 0) (hy : plainName (mY M).cls = true) (hn : (lg_sl args).length ≤ mL M) (hlv : lv_args 0 args = lv) (k : ∀ h0, AWT G o ad h0 M Q f g e 0 lv []) : MCT G o ad M args f g e Q := by
  intro h0 h hr
  refine MC.of hy hn hlv ?_
  rw [hz.1, hz.2]
  exact k h0 h hr
theorem MCT.mono {args : List Value} {Q1 : Option Value → Tf → Tg → Te → Prop} (k : MCT G o ad M args f g e Q1) (hQ : ∀ v f' g' e', Q1 v f' g' e' → Q v f' g' e') : MCT G o ad M args f g e Q :=
  fun h0 h hr => (k h0 h hr).mono fun v h' ⟨f', g', e', h1, h2⟩ => ⟨f', g', e', h1, hQ v f' g' e' h2⟩
theorem AWT.mono {Q1 : Option Value → Tf → Tg → Te → Prop} (hQ : ∀ v f' g' e', Q1 v f' g' e' → Q v f' g' e') (k : AWT G o ad h0 M Q1 f g e pc lv st) : AWT G o ad h0 M Q f g e pc lv st :=
  fun h hr => AW_mono (fun oc h' ⟨v, hv, f', g', e', h1, h2⟩ => ⟨v, hv, f', g', e', h1, hQ v f' g' e' h2⟩) (k h hr)
theorem AWT_iconst {n : Int} {v : Int32} (hd : decode (mC M) pc = .ok (.iconst n, 1)) (hv : Int32.ofInt n = v) (k : AWT G o ad h0 M Q f g e (pc + 1) lv (.int v :: st)) : AWT G o ad h0 M Q f g e pc lv (st) := fun h hr => AW_iconst hd hv (k h hr)
theorem AWT_bipush {n : Int} {v : Int32} (hd : decode (mC M) pc = .ok (.bipush n, 2)) (hv : (Int8.ofInt n).toInt32 = v) (k : AWT G o ad h0 M Q f g e (pc + 2) lv (.int v :: st)) : AWT G o ad h0 M Q f g e pc lv (st) := fun h hr => AW_bipush hd hv (k h hr)
theorem AWT_sipush {n : Int} {v : Int32} (hd : decode (mC M) pc = .ok (.sipush n, 3)) (hv : (Int16.ofInt n).toInt32 = v) (k : AWT G o ad h0 M Q f g e (pc + 3) lv (.int v :: st)) : AWT G o ad h0 M Q f g e pc lv (st) := fun h hr => AW_sipush hd hv (k h hr)
theorem AWT_lconst {n : Fin 2} {v : Int64} (hd : decode (mC M) pc = .ok (.lconst n, 1)) (hv : Int64.ofNat (n : Nat) = v) (k : AWT G o ad h0 M Q f g e (pc + 1) lv (.long v :: st)) : AWT G o ad h0 M Q f g e pc lv (st) := fun h hr => AW_lconst hd hv (k h hr)
theorem AWT_iload_n {k : Fin 4} {i : Nat} {x : Int32} (hd : decode (mC M) pc = .ok (.iload_n k, 1)) (hi : (k : Nat) = i) (q : Nat) (hq : lv[q]? = some (i, .int x)) (k : AWT G o ad h0 M Q f g e (pc + 1) lv (.int x :: st)) : AWT G o ad h0 M Q f g e pc lv (st) := fun h hr => AW_iload_n hd hi q hq (k h hr)
theorem AWT_iload {i : Nat} {x : Int32} (hd : decode (mC M) pc = .ok (.iload i, 2)) (q : Nat) (hq : lv[q]? = some (i, .int x)) (k : AWT G o ad h0 M Q f g e (pc + 2) lv (.int x :: st)) : AWT G o ad h0 M Q f g e pc lv (st) := fun h hr => AW_iload hd q hq (k h hr)
theorem AWT_istore_n {k : Fin 4} {i : Nat} {x : Int32} {lv' : List (Nat × Value)} (hd : decode (mC M) pc = .ok (.istore_n k, 1)) (hi : (k : Nat) = i) (hn : i < mL M) (he : (i, Value.int x) :: lv.filter (fun q => !(q.1 == i) && !(q.1 + 1 == i && q.2.category == 2)) = lv') (k : AWT G o ad h0 M Q f g e (pc + 1) lv' st) : AWT G o ad h0 M Q f g e pc lv (.int x :: st) := fun h hr => AW_istore_n hd hi hn he (k h hr)
theorem AWT_istore {i : Nat} {x : Int32} {lv' : List (Nat × Value)} (hd : decode (mC M) pc = .ok (.istore i, 2)) (hn : i < mL M) (he : (i, Value.int x) :: lv.filter (fun q => !(q.1 == i) && !(q.1 + 1 == i && q.2.category == 2)) = lv') (k : AWT G o ad h0 M Q f g e (pc + 2) lv' st) : AWT G o ad h0 M Q f g e pc lv (.int x :: st) := fun h hr => AW_istore hd hn he (k h hr)
theorem AWT_lload_n {k : Fin 4} {i : Nat} {x : Int64} (hd : decode (mC M) pc = .ok (.lload_n k, 1)) (hi : (k : Nat) = i) (q : Nat) (hq : lv[q]? = some (i, .long x)) (k : AWT G o ad h0 M Q f g e (pc + 1) lv (.long x :: st)) : AWT G o ad h0 M Q f g e pc lv (st) := fun h hr => AW_lload_n hd hi q hq (k h hr)
theorem AWT_lload {i : Nat} {x : Int64} (hd : decode (mC M) pc = .ok (.lload i, 2)) (q : Nat) (hq : lv[q]? = some (i, .long x)) (k : AWT G o ad h0 M Q f g e (pc + 2) lv (.long x :: st)) : AWT G o ad h0 M Q f g e pc lv (st) := fun h hr => AW_lload hd q hq (k h hr)
theorem AWT_lstore_n {k : Fin 4} {i : Nat} {x : Int64} {lv' : List (Nat × Value)} (hd : decode (mC M) pc = .ok (.lstore_n k, 1)) (hi : (k : Nat) = i) (hn : i + 1 < mL M) (he : (i, Value.long x) :: lv.filter (fun q => !(q.1 == i) && (!(q.1 == i + 1) && !(q.1 + 1 == i && q.2.category == 2))) = lv') (k : AWT G o ad h0 M Q f g e (pc + 1) lv' st) : AWT G o ad h0 M Q f g e pc lv (.long x :: st) := fun h hr => AW_lstore_n hd hi hn he (k h hr)
theorem AWT_lstore {i : Nat} {x : Int64} {lv' : List (Nat × Value)} (hd : decode (mC M) pc = .ok (.lstore i, 2)) (hn : i + 1 < mL M) (he : (i, Value.long x) :: lv.filter (fun q => !(q.1 == i) && (!(q.1 == i + 1) && !(q.1 + 1 == i && q.2.category == 2))) = lv') (k : AWT G o ad h0 M Q f g e (pc + 2) lv' st) : AWT G o ad h0 M Q f g e pc lv (.long x :: st) := fun h hr => AW_lstore hd hn he (k h hr)
theorem AWT_aload_n {k : Fin 4} {i : Nat} {x : Nat} (hd : decode (mC M) pc = .ok (.aload_n k, 1)) (hi : (k : Nat) = i) (q : Nat) (hq : lv[q]? = some (i, .ref x)) (k : AWT G o ad h0 M Q f g e (pc + 1) lv (.ref x :: st)) : AWT G o ad h0 M Q f g e pc lv (st) := fun h hr => AW_aload_n hd hi q hq (k h hr)
theorem AWT_aload {i : Nat} {x : Nat} (hd : decode (mC M) pc = .ok (.aload i, 2)) (q : Nat) (hq : lv[q]? = some (i, .ref x)) (k : AWT G o ad h0 M Q f g e (pc + 2) lv (.ref x :: st)) : AWT G o ad h0 M Q f g e pc lv (st) := fun h hr => AW_aload hd q hq (k h hr)
theorem AWT_astore_n {k : Fin 4} {i : Nat} {x : Nat} {lv' : List (Nat × Value)} (hd : decode (mC M) pc = .ok (.astore_n k, 1)) (hi : (k : Nat) = i) (hn : i < mL M) (he : (i, Value.ref x) :: lv.filter (fun q => !(q.1 == i) && !(q.1 + 1 == i && q.2.category == 2)) = lv') (k : AWT G o ad h0 M Q f g e (pc + 1) lv' st) : AWT G o ad h0 M Q f g e pc lv (.ref x :: st) := fun h hr => AW_astore_n hd hi hn he (k h hr)
theorem AWT_astore {i : Nat} {x : Nat} {lv' : List (Nat × Value)} (hd : decode (mC M) pc = .ok (.astore i, 2)) (hn : i < mL M) (he : (i, Value.ref x) :: lv.filter (fun q => !(q.1 == i) && !(q.1 + 1 == i && q.2.category == 2)) = lv') (k : AWT G o ad h0 M Q f g e (pc + 2) lv' st) : AWT G o ad h0 M Q f g e pc lv (.ref x :: st) := fun h hr => AW_astore hd hn he (k h hr)
theorem AWT_iinc {i : Nat} {n : Int} {x v : Int32} {lv' : List (Nat × Value)} (hd : decode (mC M) pc = .ok (.iinc i n, 3)) (q : Nat) (hq : lv[q]? = some (i, .int x)) (hv : x + Int32.ofInt n = v) (hn : i < mL M) (he : (i, Value.int v) :: lv.filter (fun q => !(q.1 == i) && !(q.1 + 1 == i && q.2.category == 2)) = lv') (k : AWT G o ad h0 M Q f g e (pc + 3) lv' st) : AWT G o ad h0 M Q f g e pc lv st := fun h hr => AW_iinc hd q hq hv hn he (k h hr)
theorem AWT_lv {lv' : List (Nat × Value)} (ks : List Nat) (he : lv_pick lv ks = lv') (k : AWT G o ad h0 M Q f g e pc lv' st) : AWT G o ad h0 M Q f g e pc lv st := fun h hr => AW_lv ks he (k h hr)
theorem AWT_iadd {x y : Int32} (hd : decode (mC M) pc = .ok (.iadd, 1)) (k : AWT G o ad h0 M Q f g e (pc + 1) lv (.int (x + y) :: st)) : AWT G o ad h0 M Q f g e pc lv (.int y :: .int x :: st) := fun h hr => AW_iadd hd (k h hr)
theorem AWT_ladd {x y : Int64} (hd : decode (mC M) pc = .ok (.ladd, 1)) (k : AWT G o ad h0 M Q f g e (pc + 1) lv (.long (x + y) :: st)) : AWT G o ad h0 M Q f g e pc lv (.long y :: .long x :: st) := fun h hr => AW_ladd hd (k h hr)
theorem AWT_isub {x y : Int32} (hd : decode (mC M) pc = .ok (.isub, 1)) (k : AWT G o ad h0 M Q f g e (pc + 1) lv (.int (x - y) :: st)) : AWT G o ad h0 M Q f g e pc lv (.int y :: .int x :: st) := fun h hr => AW_isub hd (k h hr)
theorem AWT_lsub {x y : Int64} (hd : decode (mC M) pc = .ok (.lsub, 1)) (k : AWT G o ad h0 M Q f g e (pc + 1) lv (.long (x - y) :: st)) : AWT G o ad h0 M Q f g e pc lv (.long y :: .long x :: st) := fun h hr => AW_lsub hd (k h hr)
theorem AWT_imul {x y : Int32} (hd : decode (mC M) pc = .ok (.imul, 1)) (k : AWT G o ad h0 M Q f g e (pc + 1) lv (.int (x * y) :: st)) : AWT G o ad h0 M Q f g e pc lv (.int y :: .int x :: st) := fun h hr => AW_imul hd (k h hr)
theorem AWT_lmul {x y : Int64} (hd : decode (mC M) pc = .ok (.lmul, 1)) (k : AWT G o ad h0 M Q f g e (pc + 1) lv (.long (x * y) :: st)) : AWT G o ad h0 M Q f g e pc lv (.long y :: .long x :: st) := fun h hr => AW_lmul hd (k h hr)
theorem AWT_iand {x y : Int32} (hd : decode (mC M) pc = .ok (.iand, 1)) (k : AWT G o ad h0 M Q f g e (pc + 1) lv (.int (x &&& y) :: st)) : AWT G o ad h0 M Q f g e pc lv (.int y :: .int x :: st) := fun h hr => AW_iand hd (k h hr)
theorem AWT_land {x y : Int64} (hd : decode (mC M) pc = .ok (.land, 1)) (k : AWT G o ad h0 M Q f g e (pc + 1) lv (.long (x &&& y) :: st)) : AWT G o ad h0 M Q f g e pc lv (.long y :: .long x :: st) := fun h hr => AW_land hd (k h hr)
theorem AWT_ior {x y : Int32} (hd : decode (mC M) pc = .ok (.ior, 1)) (k : AWT G o ad h0 M Q f g e (pc + 1) lv (.int (x ||| y) :: st)) : AWT G o ad h0 M Q f g e pc lv (.int y :: .int x :: st) := fun h hr => AW_ior hd (k h hr)
theorem AWT_lor {x y : Int64} (hd : decode (mC M) pc = .ok (.lor, 1)) (k : AWT G o ad h0 M Q f g e (pc + 1) lv (.long (x ||| y) :: st)) : AWT G o ad h0 M Q f g e pc lv (.long y :: .long x :: st) := fun h hr => AW_lor hd (k h hr)
theorem AWT_ixor {x y : Int32} (hd : decode (mC M) pc = .ok (.ixor, 1)) (k : AWT G o ad h0 M Q f g e (pc + 1) lv (.int (x ^^^ y) :: st)) : AWT G o ad h0 M Q f g e pc lv (.int y :: .int x :: st) := fun h hr => AW_ixor hd (k h hr)
theorem AWT_lxor {x y : Int64} (hd : decode (mC M) pc = .ok (.lxor, 1)) (k : AWT G o ad h0 M Q f g e (pc + 1) lv (.long (x ^^^ y) :: st)) : AWT G o ad h0 M Q f g e pc lv (.long y :: .long x :: st) := fun h hr => AW_lxor hd (k h hr)
theorem AWT_idiv {x y : Int32} (hd : decode (mC M) pc = .ok (.idiv, 1)) (hne : ¬ y = 0) (k : AWT G o ad h0 M Q f g e (pc + 1) lv (.int (x / y) :: st)) : AWT G o ad h0 M Q f g e pc lv (.int y :: .int x :: st) := fun h hr => AW_idiv hd hne (k h hr)
theorem AWT_ldiv {x y : Int64} (hd : decode (mC M) pc = .ok (.ldiv, 1)) (hne : ¬ y = 0) (k : AWT G o ad h0 M Q f g e (pc + 1) lv (.long (x / y) :: st)) : AWT G o ad h0 M Q f g e pc lv (.long y :: .long x :: st) := fun h hr => AW_ldiv hd hne (k h hr)
theorem AWT_irem {x y : Int32} (hd : decode (mC M) pc = .ok (.irem, 1)) (hne : ¬ y = 0) (k : AWT G o ad h0 M Q f g e (pc + 1) lv (.int (x - x / y * y) :: st)) : AWT G o ad h0 M Q f g e pc lv (.int y :: .int x :: st) := fun h hr => AW_irem hd hne (k h hr)
theorem AWT_lrem {x y : Int64} (hd : decode (mC M) pc = .ok (.lrem, 1)) (hne : ¬ y = 0) (k : AWT G o ad h0 M Q f g e (pc + 1) lv (.long (x - x / y * y) :: st)) : AWT G o ad h0 M Q f g e pc lv (.long y :: .long x :: st) := fun h hr => AW_lrem hd hne (k h hr)
theorem AWT_ineg {x : Int32} (hd : decode (mC M) pc = .ok (.ineg, 1)) (k : AWT G o ad h0 M Q f g e (pc + 1) lv (.int (-x) :: st)) : AWT G o ad h0 M Q f g e pc lv (.int x :: st) := fun h hr => AW_ineg hd (k h hr)
theorem AWT_ishl {x y : Int32} (hd : decode (mC M) pc = .ok (.ishl, 1)) (k : AWT G o ad h0 M Q f g e (pc + 1) lv (.int (x <<< (y &&& 31)) :: st)) : AWT G o ad h0 M Q f g e pc lv (.int y :: .int x :: st) := fun h hr => AW_ishl hd (k h hr)
theorem AWT_ishr {x y : Int32} (hd : decode (mC M) pc = .ok (.ishr, 1)) (k : AWT G o ad h0 M Q f g e (pc + 1) lv (.int (x >>> (y &&& 31)) :: st)) : AWT G o ad h0 M Q f g e pc lv (.int y :: .int x :: st) := fun h hr => AW_ishr hd (k h hr)
theorem AWT_lshl {x : Int64} {y : Int32} (hd : decode (mC M) pc = .ok (.lshl, 1)) (k : AWT G o ad h0 M Q f g e (pc + 1) lv (.long (x <<< (y.toInt64 &&& 63)) :: st)) : AWT G o ad h0 M Q f g e pc lv (.int y :: .long x :: st) := fun h hr => AW_lshl hd (k h hr)
theorem AWT_lshr {x : Int64} {y : Int32} (hd : decode (mC M) pc = .ok (.lshr, 1)) (k : AWT G o ad h0 M Q f g e (pc + 1) lv (.long (x >>> (y.toInt64 &&& 63)) :: st)) : AWT G o ad h0 M Q f g e pc lv (.int y :: .long x :: st) := fun h hr => AW_lshr hd (k h hr)
theorem AWT_i2l {x : Int32} (hd : decode (mC M) pc = .ok (.i2l, 1)) (k : AWT G o ad h0 M Q f g e (pc + 1) lv (.long x.toInt64 :: st)) : AWT G o ad h0 M Q f g e pc lv (.int x :: st) := fun h hr => AW_i2l hd (k h hr)
theorem AWT_l2i {x : Int64} (hd : decode (mC M) pc = .ok (.l2i, 1)) (k : AWT G o ad h0 M Q f g e (pc + 1) lv (.int x.toInt32 :: st)) : AWT G o ad h0 M Q f g e pc lv (.long x :: st) := fun h hr => AW_l2i hd (k h hr)
theorem AWT_i2b {x : Int32} (hd : decode (mC M) pc = .ok (.i2b, 1)) (k : AWT G o ad h0 M Q f g e (pc + 1) lv (.int x.toInt8.toInt32 :: st)) : AWT G o ad h0 M Q f g e pc lv (.int x :: st) := fun h hr => AW_i2b hd (k h hr)
theorem AWT_lcmp {x y : Int64} (hd : decode (mC M) pc = .ok (.lcmp, 1)) (k : AWT G o ad h0 M Q f g e (pc + 1) lv (.int (lg_cmp x y) :: st)) : AWT G o ad h0 M Q f g e pc lv (.long y :: .long x :: st) := fun h hr => AW_lcmp hd (k h hr)
theorem AWT_dup {va : Value} (hd : decode (mC M) pc = .ok (.dup, 1)) (hva : va.category = 1) (k : AWT G o ad h0 M Q f g e (pc + 1) lv (va :: va :: st)) : AWT G o ad h0 M Q f g e pc lv (va :: st) := fun h hr => AW_dup hd hva (k h hr)
theorem AWT_pop {va : Value} (hd : decode (mC M) pc = .ok (.pop, 1)) (hva : va.category = 1) (k : AWT G o ad h0 M Q f g e (pc + 1) lv (st)) : AWT G o ad h0 M Q f g e pc lv (va :: st) := fun h hr => AW_pop hd hva (k h hr)
theorem AWT_dup2 {va vb : Value} (hd : decode (mC M) pc = .ok (.dup2, 1)) (hva : va.category = 1) (hvb : vb.category = 1) (k : AWT G o ad h0 M Q f g e (pc + 1) lv (va :: vb :: va :: vb :: st)) : AWT G o ad h0 M Q f g e pc lv (va :: vb :: st) := fun h hr => AW_dup2 hd hva hvb (k h hr)
theorem AWT_icmp_eq {x y : Int32} {off : Int} {tgt : Nat} (hd : decode (mC M) pc = .ok (.if_icmp .eq off, 3)) (ht : (pc : Int) + off = (tgt : Int)) (kt : x = y → AWT G o ad h0 M Q f g e tgt lv st) (kf : ¬ x = y → AWT G o ad h0 M Q f g e (pc + 3) lv st) : AWT G o ad h0 M Q f g e pc lv (.int y :: .int x :: st) := fun h hr => AW_icmp_eq hd ht (fun z => kt z h hr) (fun z => kf z h hr)
theorem AWT_if_eq {x : Int32} {off : Int} {tgt : Nat} (hd : decode (mC M) pc = .ok (.ifCond .eq off, 3)) (ht : (pc : Int) + off = (tgt : Int)) (kt : x = 0 → AWT G o ad h0 M Q f g e tgt lv st) (kf : ¬ x = 0 → AWT G o ad h0 M Q f g e (pc + 3) lv st) : AWT G o ad h0 M Q f g e pc lv (.int x :: st) := fun h hr => AW_if_eq hd ht (fun z => kt z h hr) (fun z => kf z h hr)
theorem AWT_icmp_ne {x y : Int32} {off : Int} {tgt : Nat} (hd : decode (mC M) pc = .ok (.if_icmp .ne off, 3)) (ht : (pc : Int) + off = (tgt : Int)) (kt : ¬ x = y → AWT G o ad h0 M Q f g e tgt lv st) (kf : x = y → AWT G o ad h0 M Q f g e (pc + 3) lv st) : AWT G o ad h0 M Q f g e pc lv (.int y :: .int x :: st) := fun h hr => AW_icmp_ne hd ht (fun z => kt z h hr) (fun z => kf z h hr)
theorem AWT_if_ne {x : Int32} {off : Int} {tgt : Nat} (hd : decode (mC M) pc = .ok (.ifCond .ne off, 3)) (ht : (pc : Int) + off = (tgt : Int)) (kt : ¬ x = 0 → AWT G o ad h0 M Q f g e tgt lv st) (kf : x = 0 → AWT G o ad h0 M Q f g e (pc + 3) lv st) : AWT G o ad h0 M Q f g e pc lv (.int x :: st) := fun h hr => AW_if_ne hd ht (fun z => kt z h hr) (fun z => kf z h hr)
theorem AWT_icmp_lt {x y : Int32} {off : Int} {tgt : Nat} (hd : decode (mC M) pc = .ok (.if_icmp .lt off, 3)) (ht : (pc : Int) + off = (tgt : Int)) (kt : x < y → AWT G o ad h0 M Q f g e tgt lv st) (kf : ¬ x < y → AWT G o ad h0 M Q f g e (pc + 3) lv st) : AWT G o ad h0 M Q f g e pc lv (.int y :: .int x :: st) := fun h hr => AW_icmp_lt hd ht (fun z => kt z h hr) (fun z => kf z h hr)
theorem AWT_if_lt {x : Int32} {off : Int} {tgt : Nat} (hd : decode (mC M) pc = .ok (.ifCond .lt off, 3)) (ht : (pc : Int) + off = (tgt : Int)) (kt : x < 0 → AWT G o ad h0 M Q f g e tgt lv st) (kf : ¬ x < 0 → AWT G o ad h0 M Q f g e (pc + 3) lv st) : AWT G o ad h0 M Q f g e pc lv (.int x :: st) := fun h hr => AW_if_lt hd ht (fun z => kt z h hr) (fun z => kf z h hr)
theorem AWT_icmp_ge {x y : Int32} {off : Int} {tgt : Nat} (hd : decode (mC M) pc = .ok (.if_icmp .ge off, 3)) (ht : (pc : Int) + off = (tgt : Int)) (kt : y ≤ x → AWT G o ad h0 M Q f g e tgt lv st) (kf : ¬ y ≤ x → AWT G o ad h0 M Q f g e (pc + 3) lv st) : AWT G o ad h0 M Q f g e pc lv (.int y :: .int x :: st) := fun h hr => AW_icmp_ge hd ht (fun z => kt z h hr) (fun z => kf z h hr)
theorem AWT_if_ge {x : Int32} {off : Int} {tgt : Nat} (hd : decode (mC M) pc = .ok (.ifCond .ge off, 3)) (ht : (pc : Int) + off = (tgt : Int)) (kt : 0 ≤ x → AWT G o ad h0 M Q f g e tgt lv st) (kf : ¬ 0 ≤ x → AWT G o ad h0 M Q f g e (pc + 3) lv st) : AWT G o ad h0 M Q f g e pc lv (.int x :: st) := fun h hr => AW_if_ge hd ht (fun z => kt z h hr) (fun z => kf z h hr)
theorem AWT_icmp_gt {x y : Int32} {off : Int} {tgt : Nat} (hd : decode (mC M) pc = .ok (.if_icmp .gt off, 3)) (ht : (pc : Int) + off = (tgt : Int)) (kt : y < x → AWT G o ad h0 M Q f g e tgt lv st) (kf : ¬ y < x → AWT G o ad h0 M Q f g e (pc + 3) lv st) : AWT G o ad h0 M Q f g e pc lv (.int y :: .int x :: st) := fun h hr => AW_icmp_gt hd ht (fun z => kt z h hr) (fun z => kf z h hr)
theorem AWT_if_gt {x : Int32} {off : Int} {tgt : Nat} (hd : decode (mC M) pc = .ok (.ifCond .gt off, 3)) (ht : (pc : Int) + off = (tgt : Int)) (kt : 0 < x → AWT G o ad h0 M Q f g e tgt lv st) (kf : ¬ 0 < x → AWT G o ad h0 M Q f g e (pc + 3) lv st) : AWT G o ad h0 M Q f g e pc lv (.int x :: st) := fun h hr => AW_if_gt hd ht (fun z => kt z h hr) (fun z => kf z h hr)
theorem AWT_icmp_le {x y : Int32} {off : Int} {tgt : Nat} (hd : decode (mC M) pc = .ok (.if_icmp .le off, 3)) (ht : (pc : Int) + off = (tgt : Int)) (kt : x ≤ y → AWT G o ad h0 M Q f g e tgt lv st) (kf : ¬ x ≤ y → AWT G o ad h0 M Q f g e (pc + 3) lv st) : AWT G o ad h0 M Q f g e pc lv (.int y :: .int x :: st) := fun h hr => AW_icmp_le hd ht (fun z => kt z h hr) (fun z => kf z h hr)
theorem AWT_if_le {x : Int32} {off : Int} {tgt : Nat} (hd : decode (mC M) pc = .ok (.ifCond .le off, 3)) (ht : (pc : Int) + off = (tgt : Int)) (kt : x ≤ 0 → AWT G o ad h0 M Q f g e tgt lv st) (kf : ¬ x ≤ 0 → AWT G o ad h0 M Q f g e (pc + 3) lv st) : AWT G o ad h0 M Q f g e pc lv (.int x :: st) := fun h hr => AW_if_le hd ht (fun z => kt z h hr) (fun z => kf z h hr)
/-- a truth as an int -/
def bI (p : Bool) : Int32 := if p then 1 else 0
theorem bI_0 {p : Bool} : bI p = 0 ↔ p = false := by cases p <;> decide
theorem bI_n0 {p : Bool} : ¬ bI p = 0 ↔ p = true := by cases p <;> decide
theorem bI_1 {p : Bool} : bI p = 1 ↔ p = true := by cases p <;> decide
theorem bI_nar (p : Bool) : narrow .boolean (.int (bI p)) = .int (bI p) := by cases p <;> decide
theorem AWT_ifb_eq {p : Bool} {off : Int} {tgt : Nat} (hd : decode (mC M) pc = .ok (.ifCond .eq off, 3)) (ht : (pc : Int) + off = (tgt : Int)) (kt : p = false → AWT G o ad h0 M Q f g e tgt lv st) (kf : p = true → AWT G o ad h0 M Q f g e (pc + 3) lv st) : AWT G o ad h0 M Q f g e pc lv (.int (bI p) :: st) := AWT_if_eq hd ht (fun z => kt (bI_0.mp z)) (fun z => kf (bI_n0.mp z))
theorem AWT_ifb_ne {p : Bool} {off : Int} {tgt : Nat} (hd : decode (mC M) pc = .ok (.ifCond .ne off, 3)) (ht : (pc : Int) + off = (tgt : Int)) (kt : p = true → AWT G o ad h0 M Q f g e tgt lv st) (kf : p = false → AWT G o ad h0 M Q f g e (pc + 3) lv st) : AWT G o ad h0 M Q f g e pc lv (.int (bI p) :: st) := AWT_if_ne hd ht (fun z => kt (bI_n0.mp z)) (fun z => kf (bI_0.mp z))
theorem AWT_goto {off : Int} {tgt : Nat} (hd : decode (mC M) pc = .ok (.goto off, 3)) (ht : (pc : Int) + off = (tgt : Int)) (k : AWT G o ad h0 M Q f g e tgt lv st) : AWT G o ad h0 M Q f g e pc lv st := fun h hr => AW_goto hd ht (k h hr)
theorem AWT_tableIn {dflt lo hi : Int} {offs : Array Int} {len : Nat} {x : Int32} {off : Int} {tgt : Nat} (hd : decode (mC M) pc = .ok (.tableswitch dflt lo hi offs, len)) (h1 : ¬ x.toInt < lo) (h2 : ¬ hi < x.toInt) (ho : offs[(x.toInt - lo).toNat]? = some off) (ht : (pc : Int) + off = (tgt : Int)) (k : AWT G o ad h0 M Q f g e tgt lv st) : AWT G o ad h0 M Q f g e pc lv (.int x :: st) := fun h hr => AW_tableIn hd h1 h2 ho ht (k h hr)
theorem AWT_tableOut {dflt lo hi : Int} {offs : Array Int} {len : Nat} {x : Int32} {tgt : Nat} (hd : decode (mC M) pc = .ok (.tableswitch dflt lo hi offs, len)) (h1 : x.toInt < lo ∨ hi < x.toInt) (ht : (pc : Int) + dflt = (tgt : Int)) (k : AWT G o ad h0 M Q f g e tgt lv st) : AWT G o ad h0 M Q f g e pc lv (.int x :: st) := fun h hr => AW_tableOut hd h1 ht (k h hr)
theorem AWT_ldc {index : Nat} {v : Int32} (hw : Cond.constant (mY M).cls index v ∈ lw_all) (hd : decode (mC M) pc = .ok (.ldc index, 2)) (k : AWT G o ad h0 M Q f g e (pc + 2) lv (.int v :: st)) : AWT G o ad h0 M Q f g e pc lv st := fun h hr => AW_ldc hw hd (k h hr)
theorem AWT_ldcw {index : Nat} {v : Int32} (hw : Cond.constant (mY M).cls index v ∈ lw_all) (hd : decode (mC M) pc = .ok (.ldc_w index, 3)) (k : AWT G o ad h0 M Q f g e (pc + 3) lv (.int v :: st)) : AWT G o ad h0 M Q f g e pc lv st := fun h hr => AW_ldcw hw hd (k h hr)
theorem AWT_ldc2 {index : Nat} {v : Int64} (hw : Cond.constantLong (mY M).cls index v ∈ lw_all) (hd : decode (mC M) pc = .ok (.ldc2_w index, 3)) (k : AWT G o ad h0 M Q f g e (pc + 3) lv (.long v :: st)) : AWT G o ad h0 M Q f g e pc lv st := fun h hr => AW_ldc2 hw hd (k h hr)
theorem AWT_iret {v : Int32} {ty : FieldType} (hr : mT M = some ty) (hn : narrow ty (.int v) = .int v) (hd : decode (mC M) pc = .ok (.ireturn, 1)) (hq : Q (some (.int v)) f g e) : AWT G o ad h0 M Q f g e pc lv [.int v] := fun h hR => AW_iret hr hn hd ⟨_, rfl, f, g, e, hR, hq⟩
theorem AWT_lret {v : Int64} (hr : mT M = some .long) (hd : decode (mC M) pc = .ok (.lreturn, 1)) (hq : Q (some (.long v)) f g e) : AWT G o ad h0 M Q f g e pc lv [.long v] := fun h hR => AW_lret hr hd ⟨_, rfl, f, g, e, hR, hq⟩
theorem AWT_vret (hr : mT M = none) (hd : decode (mC M) pc = .ok (.return_, 1)) (hq : Q none f g e) : AWT G o ad h0 M Q f g e pc lv [] := fun h hR => AW_vret hr hd ⟨_, rfl, f, g, e, hR, hq⟩
/-- fields and arrays -/
theorem AWT_getI {index : Nat} (k : Nat) (hk : k < 44) (ht : isI (fty 9 k) = true) (hf : FL (mY M).cls index (TX9 k).1 (TX9 k).2.1 (TX9 k).2.2.1) (hd : decode (mC M) pc = .ok (.getfield index, 3)) (kk : AWT G o ad h0 M Q f g e (pc + 3) lv (.int (f k) :: st)) : AWT G o ad h0 M Q f g e pc lv (.ref o :: st) := fun h hr => AW_getI k clX9 hk ht hf hd hr.1.1 (by rw [hr.2.1 k]; exact kk h hr)
theorem AWT_getL {index : Nat} (k : Nat) (hk : k < 44) (ht : fty 9 k = .long) (hf : FL (mY M).cls index (TX9 k).1 (TX9 k).2.1 (TX9 k).2.2.1) (hd : decode (mC M) pc = .ok (.getfield index, 3)) (kk : AWT G o ad h0 M Q f g e (pc + 3) lv (.long (e k) :: st)) : AWT G o ad h0 M Q f g e pc lv (.ref o :: st) := fun h hr => AW_getL k clX9 hk ht hf hd hr.1.1 (by rw [hr.2.2.2.1 k]; exact kk h hr)
theorem AWT_getA {index : Nat} (k : Nat) (hk : k < 44) (ht : isRf (fty 9 k) = true) (hA : tA k = true) (hf : FL (mY M).cls index (TX9 k).1 (TX9 k).2.1 (TX9 k).2.2.1) (hd : decode (mC M) pc = .ok (.getfield index, 3)) (kk : AWT G o ad h0 M Q f g e (pc + 3) lv (.ref (ad k) :: st)) : AWT G o ad h0 M Q f g e pc lv (.ref o :: st) := fun h hr => AW_getR k clX9 hk ht hf hd hr.1.1 (hr.1.2.1 k hA).1 (kk h hr)
theorem AWT_putI {index : Nat} {v : Int32} (k : Nat) (hk : k < 44) (ht : fty 9 k = .int) (hf : FL (mY M).cls index (TX9 k).1 (TX9 k).2.1 (TX9 k).2.2.1) (hfin : (TX9 k).2.2.2 = false) (hd : decode (mC M) pc = .ok (.putfield index, 3)) (kk : AWT G o ad h0 M Q (upd f k v) g e (pc + 3) lv st) : AWT G o ad h0 M Q f g e pc lv (.int v :: .ref o :: st) := fun h hr => AW_putI k clX9 hk (by rw [ht]; rfl) hf hfin (by rw [ht]; rfl) (by rw [ht]; rfl) hd hr.1.1 (kk _ (hr.put k v))
theorem AWT_putL {index : Nat} {v : Int64} (k : Nat) (hk : k < 44) (ht : fty 9 k = .long) (hf : FL (mY M).cls index (TX9 k).1 (TX9 k).2.1 (TX9 k).2.2.1) (hfin : (TX9 k).2.2.2 = false) (hd : decode (mC M) pc = .ok (.putfield index, 3)) (kk : AWT G o ad h0 M Q f g (uL e k v) (pc + 3) lv st) : AWT G o ad h0 M Q f g e pc lv (.long v :: .ref o :: st) := fun h hr => AW_putL k clX9 hk ht hf hfin hd hr.1.1 (kk _ (hr.putL k v))
theorem AWT_iald {k n : Nat} {i : Int32} (hA : tLn k = (0, n)) (hd : decode (mC M) pc = .ok (.iaload, 1)) (hi : vp_in i n) (kk : AWT G o ad h0 M Q f g e (pc + 1) lv (.int (g k i.toNatClampNeg) :: st)) : AWT G o ad h0 M Q f g e pc lv (.int i :: .ref (ad k) :: st) := fun h hr => by
  have hk : tA k = true := by unfold tA; rw [hA]; rfl
  refine AW_iald hd ((hr.1.2.1 k hk).2.trans (by rw [hA])) hi ?_
  rw [hr.2.2.1 k hk]
  exact kk h hr
theorem AWT_zald {k n : Nat} {i : Int32} (hA : tLn k = (2, n)) (hd : decode (mC M) pc = .ok (.baload, 1)) (hi : vp_in i n) (kk : AWT G o ad h0 M Q f g e (pc + 1) lv (.int (g k i.toNatClampNeg) :: st)) : AWT G o ad h0 M Q f g e pc lv (.int i :: .ref (ad k) :: st) := fun h hr => by
  have hk : tA k = true := by unfold tA; rw [hA]; rfl
  refine AW_zald hd ((hr.1.2.1 k hk).2.trans (by rw [hA])) hi ?_
  rw [hr.2.2.1 k hk]
  exact kk h hr
theorem AWT_iast {k n : Nat} {i x : Int32} (hA : tLn k = (0, n)) (hd : decode (mC M) pc = .ok (.iastore, 1)) (hi : vp_in i n) (kk : AWT G o ad h0 M Q f (up2 g k i.toNatClampNeg x) e (pc + 1) lv st) : AWT G o ad h0 M Q f g e pc lv (.int x :: .int i :: .ref (ad k) :: st) := fun h hr => by
  have hk : tA k = true := by unfold tA; rw [hA]; rfl
  exact AW_iast hd ((hr.1.2.1 k hk).2.trans (by rw [hA])) hi (kk _ (hr.ast hk _ _))
theorem AWT_zast {k n : Nat} {i : Int32} {x : Int32} {p : Bool} (hA : tLn k = (2, n)) (hp : x = bI p) (hd : decode (mC M) pc = .ok (.bastore, 1)) (hi : vp_in i n) (kk : AWT G o ad h0 M Q f (up2 g k i.toNatClampNeg (bI p)) e (pc + 1) lv st) : AWT G o ad h0 M Q f g e pc lv (.int x :: .int i :: .ref (ad k) :: st) := fun h hr => by
  have hk : tA k = true := by unfold tA; rw [hA]; rfl
  subst hp
  exact AW_zast hd ((hr.1.2.1 k hk).2.trans (by rw [hA])) hi (by cases p <;> decide) (kk _ (hr.ast hk _ _))
theorem AWT_callV {M' : Mi} {index n : Nat} {Q1 : Option Value → Tf → Tg → Te → Prop} (As rest : List Value) (hy : (mY M').cls = RX9) (hN : Nm (mY M') n) (hz : (mR M').cells = 0 ∧ (mR M').slots = 0) (hl1 : ML (mY M).cls index (mY M')) (hw2 : Cond.instanceMethod (mY M') ∈ lw_all) (hw3 : Cond.selects RX9 (mY M') (mY M') ∈ lw_all) (hw4 : Cond.initialized RX9 ∈ lw_all) (hw5 : Cond.code (mY M') (mC M') (mL M') (mT M') ∈ lw_all) (hd : decode (mC M) pc = .ok (.invokevirtual index, 3)) (hst : st = As.reverse ++ .ref o :: rest) (hn : As.length = n) (hr : (rest.map fun v => v.category).sum ≤ 8) (hR : Rm M M') (hM : MCT G o ad M' (.ref o :: As) f g e Q1)
    (kk : ∀ v f' g' e', Q1 v f' g' e' → AWT G o ad h0 M Q f' g' e' (pc + 3) lv (v.toList ++ rest)) : AWT G o ad h0 M Q f g e pc lv st := fun h hrp =>
  AW_callV (b' := (0, 0)) As rest clX9 hy hN hl1 hw2 hw3 hw4 hw5 hd hrp.1.1 (hM h0 h hrp) hst hn hr hR (by rw [hz.1]; exact Nat.le_refl _) (by rw [hz.2]; exact Nat.le_refl _) (fun v h' ⟨f', g', e', h1, h2⟩ => kk v f' g' e' h2 h' h1)
theorem AWT_callS {M' : Mi} {index n : Nat} {Q1 : Option Value → Tf → Tg → Te → Prop} (As rest : List Value) (hN : Nm (mY M') n) (hz : (mR M').cells = 0 ∧ (mR M').slots = 0) (hl1 : ML (mY M).cls index (mY M')) (hw2 : Cond.static (mY M') ∈ lw_all) (hw4 : Cond.initialized (mY M').cls ∈ lw_all) (hw5 : Cond.code (mY M') (mC M') (mL M') (mT M') ∈ lw_all) (hd : decode (mC M) pc = .ok (.invokestatic index, 3)) (hst : st = As.reverse ++ rest) (hn : As.length = n) (hr : (rest.map fun v => v.category).sum ≤ 8) (hR : Rm M M') (hM : MCT G o ad M' As f g e Q1)
    (kk : ∀ v f' g' e', Q1 v f' g' e' → AWT G o ad h0 M Q f' g' e' (pc + 3) lv (v.toList ++ rest)) : AWT G o ad h0 M Q f g e pc lv st := fun h hrp =>
  AW_callS (b' := (0, 0)) As rest hN hl1 hw2 hw4 hw5 hd (hM h0 h hrp) hst hn hr hR (by rw [hz.1]; exact Nat.le_refl _) (by rw [hz.2]; exact Nat.le_refl _) (fun v h' ⟨f', g', e', h1, h2⟩ => kk v f' g' e' h2 h' h1)
end AWT
