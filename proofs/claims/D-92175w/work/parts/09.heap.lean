/-! ===== rows of AW on the heap ===== -/
section AWH
variable {G : Gl} {M : Mi} {Q : Outcome → Hp → Prop} {b : Nat × Nat} {h : Hp} {pc : Nat} {lv : List (Nat × Value)} {st : List Value}
/-- a field's link: own or a nest mate's -/
def FL (own : String) (idx : Nat) (C n d : String) : Prop := Cond.fieldLink own idx C n d ∈ lw_all ∨ ∃ host, Cond.fieldLinkNest own idx C n d host ∈ lw_tbl
theorem FL.o {own : String} {idx : Nat} {C n d : String} (h : Cond.fieldLink own idx C n d ∈ lw_all) : FL own idx C n d := Or.inl h
theorem FL.n {own : String} {idx : Nat} {C n d host : String} (h : Cond.fieldLinkNest own idx C n d host ∈ lw_tbl) : FL own idx C n d := Or.inr ⟨host, h⟩
theorem AW_getV {ci : Nat} {C : String} {T : u_T} {N index a k : Nat} {v : Value} (hC : Cls ci C T N) (hk : k < N) (hf : FL (mY M).cls index (T k).1 (T k).2.1 (T k).2.2.1) (hd : decode (mC M) pc = .ok (.getfield index, 3)) (hK : xK h a = some (.inl ci)) (hv : fv h ci a k = v) (kk : AW G M Q b h (pc + 3) lv (v :: st)) : AW G M Q b h pc lv (.ref a :: st) := by
  intro p l e s m args below meth c H locs cells slots ls ws X hP hD hL hS hc hs hl
  obtain ⟨q, hq⟩ := (hL a _).mp (cellOf_obj hK)
  have X' := X
  obtain ⟨hx, hb, -, -, -, hown, hts, -, hX, -⟩ := X'
  have hv' : (flds h ci a)[k]? = some v := by rw [flds_get (by rw [hC.2.2.2.2]; exact hk), hv]
  rcases hf with hf | ⟨host, hf⟩
  · exact va_get hx hb hts hC.2.1 hown hX.2.1 hP q hq hC.1 k hk (hts _ hf) (fun _ z => z) hv' hd (kk p l e s m args below meth c H locs cells slots ls ws X hP hD hL hS hc hs hl)
  · exact va_getN hx hb hts hC.2.1 hown hX.2.1 hP q hq hC.1 k hk (nw_use (w := Cond.fieldLinkNest (mY M).cls index (T k).1 (T k).2.1 (T k).2.2.1 host) rfl (hX.2.2.1 _ hf rfl)) (fun _ z => z) hv' hd (kk p l e s m args below meth c H locs cells slots ls ws X hP hD hL hS hc hs hl)
theorem AW_getI {ci : Nat} {C : String} {T : u_T} {N index a : Nat} (k : Nat) (hC : Cls ci C T N) (hk : k < N) (ht : isI (fty ci k) = true) (hf : FL (mY M).cls index (T k).1 (T k).2.1 (T k).2.2.1) (hd : decode (mC M) pc = .ok (.getfield index, 3)) (hK : xK h a = some (.inl ci)) (kk : AW G M Q b h (pc + 3) lv (.int (xI h a k) :: st)) : AW G M Q b h pc lv (.ref a :: st) :=
  AW_getV hC hk hf hd hK (fv_I ht) kk
theorem AW_getL {ci : Nat} {C : String} {T : u_T} {N index a : Nat} (k : Nat) (hC : Cls ci C T N) (hk : k < N) (ht : fty ci k = .long) (hf : FL (mY M).cls index (T k).1 (T k).2.1 (T k).2.2.1) (hd : decode (mC M) pc = .ok (.getfield index, 3)) (hK : xK h a = some (.inl ci)) (kk : AW G M Q b h (pc + 3) lv (.long (xL h a k) :: st)) : AW G M Q b h pc lv (.ref a :: st) :=
  AW_getV hC hk hf hd hK (fv_long ht) kk
theorem AW_getR {ci : Nat} {C : String} {T : u_T} {N index a x : Nat} (k : Nat) (hC : Cls ci C T N) (hk : k < N) (ht : isRf (fty ci k) = true) (hf : FL (mY M).cls index (T k).1 (T k).2.1 (T k).2.2.1) (hd : decode (mC M) pc = .ok (.getfield index, 3)) (hK : xK h a = some (.inl ci)) (hr : xR h a k = some x) (kk : AW G M Q b h (pc + 3) lv (.ref x :: st)) : AW G M Q b h pc lv (.ref a :: st) :=
  AW_getV hC hk hf hd hK ((fv_R ht).trans (by rw [hr]; rfl)) kk
theorem AW_putV {ci : Nat} {C : String} {T : u_T} {N index a k : Nat} {v : Value} {h' : Hp} (hC : Cls ci C T N) (hk : k < N) (hf : FL (mY M).cls index (T k).1 (T k).2.1 (T k).2.2.1) (hfin : (T k).2.2.2 = false) (hn : narrow (fty ci k) v = v) (hfit : fits (fty ci k) v = true) (hd : decode (mC M) pc = .ok (.putfield index, 3)) (hK : xK h a = some (.inl ci)) (hK' : xK h' a = some (.inl ci)) (hv : fv h' ci a k = v) (ho : ∀ j, j ≠ k → fv h' ci a j = fv h ci a j) (hoff : ∀ q, q ≠ a → cellOf (gA G) h' q = cellOf (gA G) h q) (kk : AW G M Q b h' (pc + 3) lv st) : AW G M Q b h pc lv (v :: .ref a :: st) := by
  intro p l e s m args below meth c H locs cells slots ls ws X hP hD hL hS hc hs hl
  obtain ⟨q, hq⟩ := (hL a _).mp (cellOf_obj hK)
  have X' := X
  obtain ⟨hx, hb, -, -, -, hown, hts, -, hX, -⟩ := X'
  have hkn : k < nF ci := by rw [hC.2.2.2.2]; exact hk
  have e1 := flds_set hv ho hkn
  have hlen : k < (flds h ci a).length := by simpa [flds] using hkn
  have fin : ∀ (H1 : Heap) (locs1 : List Loc), va_P (gD G) vwCl (ws.set q (a, .inr (ci, (flds h ci a).set k v))) H1 → va_D (gFr G) (ws.set q (a, .inr (ci, (flds h ci a).set k v))) → va_S (gFr G) s.heap H1 locs1 → W p l e (mR M) s m args below meth c H1 locs1 cells slots (MQX below (QcG G Q) s (mR M).cells (mR M).slots (gFr G)) (F0 m (pc + 3) ls st) := by
    intro H1 locs1 hP1 hD1 hS1
    rw [e1] at hP1 hD1
    exact kk p l e s m args below meth c H1 locs1 cells slots ls _ X hP1 hD1 (hL.set hD hq (cellOf_obj hK') hoff) hS1 hc hs hl
  rcases hf with hf | ⟨host, hf⟩
  · exact va_put hx hb hts hC.2.1 (fty ci) hC.2.2.1 hC.2.2.2.1 hown hX.2.1 hP hD hS q hq hC.1 k hk (hts _ hf) (fun _ z => z) hfin (hC.2.2.1 k hk) hn hfit hlen hd fin
  · exact va_putN hx hb hts hC.2.1 (fty ci) hC.2.2.1 hC.2.2.2.1 hown hX.2.1 hP hD hS q hq hC.1 k hk (nw_use (w := Cond.fieldLinkNest (mY M).cls index (T k).1 (T k).2.1 (T k).2.2.1 host) rfl (hX.2.2.1 _ hf rfl)) (fun _ z => z) hfin (hC.2.2.1 k hk) hn hfit hlen hd fin
theorem AW_putVF {ci : Nat} {C : String} {T : u_T} {N index a k : Nat} {v : Value} {h' : Hp} (hC : Cls ci C T N) (hk : k < N) (hf : Cond.fieldLink (mY M).cls index (T k).1 (T k).2.1 (T k).2.2.1 ∈ lw_all) (hfin : (T k).2.2.2 = true) (hin : (mY M).name = "<init>") (hdecl : (T k).1 = (mY M).cls) (hn : narrow (fty ci k) v = v) (hfit : fits (fty ci k) v = true) (hd : decode (mC M) pc = .ok (.putfield index, 3)) (hK : xK h a = some (.inl ci)) (hK' : xK h' a = some (.inl ci)) (hv : fv h' ci a k = v) (ho : ∀ j, j ≠ k → fv h' ci a j = fv h ci a j) (hoff : ∀ q, q ≠ a → cellOf (gA G) h' q = cellOf (gA G) h q) (kk : AW G M Q b h' (pc + 3) lv st) : AW G M Q b h pc lv (v :: .ref a :: st) := by
  intro p l e s m args below meth c H locs cells slots ls ws X hP hD hL hS hc hs hl
  obtain ⟨q, hq⟩ := (hL a _).mp (cellOf_obj hK)
  have X' := X
  obtain ⟨hx, hb, -, -, -, hown, hts, hnm, hX, -⟩ := X'
  have hkn : k < nF ci := by rw [hC.2.2.2.2]; exact hk
  have e1 := flds_set hv ho hkn
  have hlen : k < (flds h ci a).length := by simpa [flds] using hkn
  have fin : ∀ (H1 : Heap) (locs1 : List Loc), va_P (gD G) vwCl (ws.set q (a, .inr (ci, (flds h ci a).set k v))) H1 → va_D (gFr G) (ws.set q (a, .inr (ci, (flds h ci a).set k v))) → va_S (gFr G) s.heap H1 locs1 → W p l e (mR M) s m args below meth c H1 locs1 cells slots (MQX below (QcG G Q) s (mR M).cells (mR M).slots (gFr G)) (F0 m (pc + 3) ls st) := by
    intro H1 locs1 hP1 hD1 hS1
    rw [e1] at hP1 hD1
    exact kk p l e s m args below meth c H1 locs1 cells slots ls _ X hP1 hD1 (hL.set hD hq (cellOf_obj hK') hoff) hS1 hc hs hl
  exact va_putF hx hb hts hC.2.1 (fty ci) hC.2.2.1 hC.2.2.2.1 hown hX.2.1 hP hD hS q hq hC.1 k hk (hts _ hf) (fun _ z => z) hfin (hnm.trans hin) hdecl (hC.2.2.1 k hk) hn hfit hlen hd fin
theorem fv_sI {ci a k j : Nat} {v : Int32} (hj : j ≠ k) : fv (sI h a k v) ci a j = fv h ci a j := fv_congr (by rw [xI_sI]; simp [hj]) rfl rfl
theorem fv_sR {ci a k j : Nat} {v : Option Nat} (hj : j ≠ k) : fv (sR h a k v) ci a j = fv h ci a j := fv_congr rfl (by rw [xR_sR]; simp [hj]) rfl
theorem fv_sL {ci a k j : Nat} {v : Int64} (hj : j ≠ k) : fv (sL h a k v) ci a j = fv h ci a j := fv_congr rfl rfl (by rw [xL_sL]; simp [hj])
theorem AW_putI {ci : Nat} {C : String} {T : u_T} {N index a : Nat} {v : Int32} (k : Nat) (hC : Cls ci C T N) (hk : k < N) (ht : isI (fty ci k) = true) (hf : FL (mY M).cls index (T k).1 (T k).2.1 (T k).2.2.1) (hfin : (T k).2.2.2 = false) (hn : narrow (fty ci k) (.int v) = .int v) (hfit : fits (fty ci k) (.int v) = true) (hd : decode (mC M) pc = .ok (.putfield index, 3)) (hK : xK h a = some (.inl ci)) (kk : AW G M Q b (sI h a k v) (pc + 3) lv st) : AW G M Q b h pc lv (.int v :: .ref a :: st) :=
  AW_putV (h' := sI h a k v) hC hk hf hfin hn hfit hd hK hK ((fv_I ht).trans (by rw [xI_sI]; simp)) (fun _ => fv_sI) (fun _ => cellOf_sI) kk
theorem AW_putIF {ci : Nat} {C : String} {T : u_T} {N index a : Nat} {v : Int32} (k : Nat) (hC : Cls ci C T N) (hk : k < N) (ht : isI (fty ci k) = true) (hf : Cond.fieldLink (mY M).cls index (T k).1 (T k).2.1 (T k).2.2.1 ∈ lw_all) (hfin : (T k).2.2.2 = true) (hin : (mY M).name = "<init>") (hdecl : (T k).1 = (mY M).cls) (hn : narrow (fty ci k) (.int v) = .int v) (hfit : fits (fty ci k) (.int v) = true) (hd : decode (mC M) pc = .ok (.putfield index, 3)) (hK : xK h a = some (.inl ci)) (kk : AW G M Q b (sI h a k v) (pc + 3) lv st) : AW G M Q b h pc lv (.int v :: .ref a :: st) :=
  AW_putVF (h' := sI h a k v) hC hk hf hfin hin hdecl hn hfit hd hK hK ((fv_I ht).trans (by rw [xI_sI]; simp)) (fun _ => fv_sI) (fun _ => cellOf_sI) kk
theorem AW_putL {ci : Nat} {C : String} {T : u_T} {N index a : Nat} {v : Int64} (k : Nat) (hC : Cls ci C T N) (hk : k < N) (ht : fty ci k = .long) (hf : FL (mY M).cls index (T k).1 (T k).2.1 (T k).2.2.1) (hfin : (T k).2.2.2 = false) (hd : decode (mC M) pc = .ok (.putfield index, 3)) (hK : xK h a = some (.inl ci)) (kk : AW G M Q b (sL h a k v) (pc + 3) lv st) : AW G M Q b h pc lv (.long v :: .ref a :: st) :=
  AW_putV (h' := sL h a k v) hC hk hf hfin (by rw [ht]; rfl) (by rw [ht]; rfl) hd hK hK ((fv_long ht).trans (by rw [xL_sL]; simp)) (fun _ => fv_sL) (fun _ => cellOf_sL) kk
theorem nr_ref {t : FieldType} (ht : isRf t = true) (v : Value) (hv : v = .null ∨ ∃ x, v = .ref x) : narrow t v = v ∧ fits t v = true := by
  cases t <;> simp [isRf] at ht <;> rcases hv with rfl | ⟨x, rfl⟩ <;> exact ⟨rfl, rfl⟩
theorem AW_putR {ci : Nat} {C : String} {T : u_T} {N index a x : Nat} (k : Nat) (hC : Cls ci C T N) (hk : k < N) (ht : isRf (fty ci k) = true) (hf : FL (mY M).cls index (T k).1 (T k).2.1 (T k).2.2.1) (hfin : (T k).2.2.2 = false) (hd : decode (mC M) pc = .ok (.putfield index, 3)) (hK : xK h a = some (.inl ci)) (kk : AW G M Q b (sR h a k (some x)) (pc + 3) lv st) : AW G M Q b h pc lv (.ref x :: .ref a :: st) :=
  AW_putV (h' := sR h a k (some x)) hC hk hf hfin (nr_ref ht _ (Or.inr ⟨x, rfl⟩)).1 (nr_ref ht _ (Or.inr ⟨x, rfl⟩)).2 hd hK hK ((fv_R ht).trans (by rw [xR_sR]; simp [va_rf])) (fun _ => fv_sR) (fun _ => cellOf_sR) kk
theorem AW_putRn {ci : Nat} {C : String} {T : u_T} {N index a : Nat} (k : Nat) (hC : Cls ci C T N) (hk : k < N) (ht : isRf (fty ci k) = true) (hf : FL (mY M).cls index (T k).1 (T k).2.1 (T k).2.2.1) (hfin : (T k).2.2.2 = false) (hd : decode (mC M) pc = .ok (.putfield index, 3)) (hK : xK h a = some (.inl ci)) (kk : AW G M Q b (sR h a k none) (pc + 3) lv st) : AW G M Q b h pc lv (.null :: .ref a :: st) :=
  AW_putV (h' := sR h a k none) hC hk hf hfin (nr_ref ht _ (Or.inl rfl)).1 (nr_ref ht _ (Or.inl rfl)).2 hd hK hK ((fv_R ht).trans (by rw [xR_sR]; simp [va_rf])) (fun _ => fv_sR) (fun _ => cellOf_sR) kk
theorem AW_putRF {ci : Nat} {C : String} {T : u_T} {N index a x : Nat} (k : Nat) (hC : Cls ci C T N) (hk : k < N) (ht : isRf (fty ci k) = true) (hf : Cond.fieldLink (mY M).cls index (T k).1 (T k).2.1 (T k).2.2.1 ∈ lw_all) (hfin : (T k).2.2.2 = true) (hin : (mY M).name = "<init>") (hdecl : (T k).1 = (mY M).cls) (hd : decode (mC M) pc = .ok (.putfield index, 3)) (hK : xK h a = some (.inl ci)) (kk : AW G M Q b (sR h a k (some x)) (pc + 3) lv st) : AW G M Q b h pc lv (.ref x :: .ref a :: st) :=
  AW_putVF (h' := sR h a k (some x)) hC hk hf hfin hin hdecl (nr_ref ht _ (Or.inr ⟨x, rfl⟩)).1 (nr_ref ht _ (Or.inr ⟨x, rfl⟩)).2 hd hK hK ((fv_R ht).trans (by rw [xR_sR]; simp [va_rf])) (fun _ => fv_sR) (fun _ => cellOf_sR) kk
theorem AW_iald {a n : Nat} {i : Int32} (hd : decode (mC M) pc = .ok (.iaload, 1)) (hK : xK h a = some (.inr (0, n))) (hi : vp_in i n) (kk : AW G M Q b h (pc + 1) lv (.int (xI h a i.toNatClampNeg) :: st)) : AW G M Q b h pc lv (.int i :: .ref a :: st) := by
  intro p l e s m args below meth c H locs cells slots ls ws X hP hD hL hS hc hs hl
  obtain ⟨q, hq⟩ := (hL a _).mp (cellOf_arr hK (by decide))
  exact va_iald X.1 X.2.1 X.2.2.2.2.2.2.2.2.1.2.1 hP q 0 hq (gTy_at (by decide)) hi hd (kk p l e s m args below meth c H locs cells slots ls ws X hP hD hL hS hc hs hl)
theorem AW_bald {a n : Nat} {i : Int32} (hd : decode (mC M) pc = .ok (.baload, 1)) (hK : xK h a = some (.inr (1, n))) (hi : vp_in i n) (kk : AW G M Q b h (pc + 1) lv (.int (xI h a i.toNatClampNeg) :: st)) : AW G M Q b h pc lv (.int i :: .ref a :: st) := by
  intro p l e s m args below meth c H locs cells slots ls ws X hP hD hL hS hc hs hl
  obtain ⟨q, hq⟩ := (hL a _).mp (cellOf_arr hK (by decide))
  exact va_bald X.1 X.2.1 X.2.2.2.2.2.2.2.2.1.2.1 hP q 1 hq (gTy_at (by decide)) hi hd (kk p l e s m args below meth c H locs cells slots ls ws X hP hD hL hS hc hs hl)
theorem AW_zald {a n : Nat} {i : Int32} (hd : decode (mC M) pc = .ok (.baload, 1)) (hK : xK h a = some (.inr (2, n))) (hi : vp_in i n) (kk : AW G M Q b h (pc + 1) lv (.int (xI h a i.toNatClampNeg) :: st)) : AW G M Q b h pc lv (.int i :: .ref a :: st) := by
  intro p l e s m args below meth c H locs cells slots ls ws X hP hD hL hS hc hs hl
  obtain ⟨q, hq⟩ := (hL a _).mp (cellOf_arr hK (by decide))
  exact va_zald X.1 X.2.1 X.2.2.2.2.2.2.2.2.1.2.1 hP q 2 hq (gTy_at (by decide)) hi hd (kk p l e s m args below meth c H locs cells slots ls ws X hP hD hL hS hc hs hl)
theorem upd_sI {a k : Nat} {x : Int32} : upd (xI h a) k x = xI (sI h a k x) a := by
  funext j
  rw [xI_sI]
  unfold upd
  simp
theorem AW_iast {a n : Nat} {i x : Int32} (hd : decode (mC M) pc = .ok (.iastore, 1)) (hK : xK h a = some (.inr (0, n))) (hi : vp_in i n) (kk : AW G M Q b (sI h a i.toNatClampNeg x) (pc + 1) lv st) : AW G M Q b h pc lv (.int x :: .int i :: .ref a :: st) := by
  intro p l e s m args below meth c H locs cells slots ls ws X hP hD hL hS hc hs hl
  obtain ⟨q, hq⟩ := (hL a _).mp (cellOf_arr hK (by decide))
  refine va_iast X.1 X.2.1 X.2.2.2.2.2.2.2.2.1.2.1 hP hD hS q 0 hq (gTy_at (by decide)) hi hd (fun H1 locs1 hP1 hD1 hS1 => ?_)
  rw [upd_sI] at hP1 hD1
  exact kk p l e s m args below meth c H1 locs1 cells slots ls _ X hP1 hD1 (hL.set hD hq (cellOf_arr hK (by decide)) (fun _ => cellOf_sI)) hS1 hc hs hl
theorem AW_bast {a n : Nat} {i x y : Int32} (hd : decode (mC M) pc = .ok (.bastore, 1)) (hK : xK h a = some (.inr (1, n))) (hi : vp_in i n) (hy : vp_nar .byte x = y) (kk : AW G M Q b (sI h a i.toNatClampNeg y) (pc + 1) lv st) : AW G M Q b h pc lv (.int x :: .int i :: .ref a :: st) := by
  intro p l e s m args below meth c H locs cells slots ls ws X hP hD hL hS hc hs hl
  obtain ⟨q, hq⟩ := (hL a _).mp (cellOf_arr hK (by decide))
  refine va_bast X.1 X.2.1 X.2.2.2.2.2.2.2.2.1.2.1 hP hD hS q 1 hq (gTy_at (by decide)) hi hd (fun H1 locs1 hP1 hD1 hS1 => ?_)
  rw [hy, upd_sI] at hP1 hD1
  exact kk p l e s m args below meth c H1 locs1 cells slots ls _ X hP1 hD1 (hL.set hD hq (cellOf_arr hK (by decide)) (fun _ => cellOf_sI)) hS1 hc hs hl
theorem AW_zast {a n : Nat} {i x y : Int32} (hd : decode (mC M) pc = .ok (.bastore, 1)) (hK : xK h a = some (.inr (2, n))) (hi : vp_in i n) (hy : vp_nar .boolean x = y) (kk : AW G M Q b (sI h a i.toNatClampNeg y) (pc + 1) lv st) : AW G M Q b h pc lv (.int x :: .int i :: .ref a :: st) := by
  intro p l e s m args below meth c H locs cells slots ls ws X hP hD hL hS hc hs hl
  obtain ⟨q, hq⟩ := (hL a _).mp (cellOf_arr hK (by decide))
  refine va_zast X.1 X.2.1 X.2.2.2.2.2.2.2.2.1.2.1 hP hD hS q 2 hq (gTy_at (by decide)) hi hd (fun H1 locs1 hP1 hD1 hS1 => ?_)
  rw [hy, upd_sI] at hP1 hD1
  exact kk p l e s m args below meth c H1 locs1 cells slots ls _ X hP1 hD1 (hL.set hD hq (cellOf_arr hK (by decide)) (fun _ => cellOf_sI)) hS1 hc hs hl
theorem va_ald0 {p : Program} {l : Launch} {e : Env} {R : Room} {s : State} {m : MethodId} {args : Array Value} {below : List Frame} {meth : Method} {c : Code} {H : Heap} {locs : List Loc} {cells slots : Nat} {Q : State → Prop} {cc : ByteArray} {pc : Nat} {ls : Array Slot} {rest : List Value} {D : va_G} {cl : List vw_C} {a : Nat} {tys : List (ClassId × FieldType)} {ws : va_W} (hexec : p.tables.exec = Jvm.exec) (hb : c.code = cc) (hK : va_K D cl tys s) (hP : va_P D cl ws H) (q0 t0 : Nat) {cA : ClassId} {ty : FieldType} {n : Nat} {f : Nat → Option Nat} (ha : ws[q0]? = some (a, .inl (cA, n, .inr (.inr (.inr (.inr f)))))) (ht : tys[t0]? = some (cA, ty)) (hty : ty.isReference = true) {i : Int32} (hin : vp_in i n) (hdg : decode cc pc = .ok (.aaload, 1))
    (kk : W p l e R s m args below meth c H locs cells slots Q (F0 m (pc + 1) ls (va_rf (f i.toNatClampNeg) :: rest))) : W p l e R s m args below meth c H locs cells slots Q (F0 m pc ls (.int i :: .ref a :: rest)) := by
  have hlt : i.toNatClampNeg < n := Nat.not_le.mp fun q => hin (Or.inr q)
  exact W.aald (v := va_rf (f i.toNatClampNeg)) (ty := ty) hexec hb (hP q0 _ ha) ((hK.2 t0 _ ht).1 n (fun j => va_rf (f j))) hty (fun q => by cases q) (by show ¬ (i < 0 ∨ (arrV _ _ _).slots.size ≤ _); rw [arrV_size]; exact hin) (by show (arrV _ _ _).slots[_]? = _; rw [arrV_read _ _ hlt]) rfl rfl hdg kk
theorem aty_ref {t : Nat} (h : ¬ t < 3) : (aty t).isReference = true := by
  match t, h with
  | 3, _ => rfl
  | 4, _ => rfl
  | 5, _ => rfl
  | 6, _ => rfl
  | 7, _ => rfl
  | n + 8, _ => rfl
theorem AW_aald {a t n x : Nat} {i : Int32} (hd : decode (mC M) pc = .ok (.aaload, 1)) (hK : xK h a = some (.inr (t, n))) (ht : ¬ t < 3) (ht9 : t < 9) (hi : vp_in i n) (hr : xR h a i.toNatClampNeg = some x) (kk : AW G M Q b h (pc + 1) lv (.ref x :: st)) : AW G M Q b h pc lv (.int i :: .ref a :: st) := by
  intro p l e s m args below meth c H locs cells slots ls ws X hP hD hL hS hc hs hl
  obtain ⟨q, hq⟩ := (hL a _).mp (cellOf_ref hK ht)
  refine va_ald0 X.1 X.2.1 X.2.2.2.2.2.2.2.2.1.2.1 hP q t hq (gTy_at ht9) (aty_ref ht) hi hd ?_
  rw [hr]
  exact kk p l e s m args below meth c H locs cells slots ls ws X hP hD hL hS hc hs hl
theorem AW_aast {a t n v ci : Nat} {C E : String} {T : u_T} {N : Nat} {i : Int32} (hd : decode (mC M) pc = .ok (.aastore, 1)) (hK : xK h a = some (.inr (t, n))) (ht : ¬ t < 3) (ht9 : t < 9) (hE : aty t = .object E) (hC : Cls ci C T N) (hv : xK h v = some (.inl ci)) (has : C = E ∨ Cond.castable C E ∈ lw_tbl) (hi : vp_in i n) (kk : AW G M Q b (sR h a i.toNatClampNeg (some v)) (pc + 1) lv st) : AW G M Q b h pc lv (.ref v :: .int i :: .ref a :: st) := by
  intro p l e s m args below meth c H locs cells slots ls ws X hP hD hL hS hc hs hl
  obtain ⟨q, hq⟩ := (hL a _).mp (cellOf_ref hK ht)
  obtain ⟨q2, hq2⟩ := (hL v _).mp (cellOf_obj hv)
  have hX := X.2.2.2.2.2.2.2.2.1
  have hany : va_Any E s H v := by
    refine va_rAny hX.2.1 hP hq2 hC.1 (fun comp c0 h1 h2 => ?_)
    rcases has with e | e
    · subst e
      have : comp = c0 := Option.some.inj (h1.symm.trans h2)
      subst this
      exact va_assign ⟨h1, (hX.2.1.1 ci _ hC.1).2.2.imp (fun k hk => ⟨by rw [← hk.1]; congr 1; exact Option.some.inj (h2.symm.trans (hX.2.1.1 ci _ hC.1).2.1), hk.2⟩)⟩
    · obtain ⟨c1, t1, f1, f2, f3⟩ := Cond.castable_spec (va_Nw.use (A := args) rfl (hX.2.2.1 _ e rfl))
      cases h1.symm.trans f2
      cases h2.symm.trans f1
      exact f3
  refine va_astqM X.1 X.2.1 hX.2.1 hP hD hS q t (E := E) hq (by rw [gTy_at ht9, hE]) hany hi hd (fun H1 locs1 hP1 hD1 hS1 => ?_)
  have e1 : va_up (xR h a) i.toNatClampNeg (some v) = xR (sR h a i.toNatClampNeg (some v)) a := by
    funext j
    rw [xR_sR]
    unfold va_up
    simp
  rw [e1] at hP1 hD1
  exact kk p l e s m args below meth c H1 locs1 cells slots ls _ X hP1 hD1 (hL.set hD hq (cellOf_ref hK ht) (fun _ => cellOf_sR)) hS1 hc hs hl
theorem AW_alen {a t n : Nat} {v : Int32} (hd : decode (mC M) pc = .ok (.arraylength, 1)) (hK : xK h a = some (.inr (t, n))) (ht9 : t < 9) (hv : Int32.ofNat n = v) (kk : AW G M Q b h (pc + 1) lv (.int v :: st)) : AW G M Q b h pc lv (.ref a :: st) := by
  intro p l e s m args below meth c H locs cells slots ls ws X hP hD hL hS hc hs hl
  have hX := X.2.2.2.2.2.2.2.2.1
  have k1 := kk p l e s m args below meth c H locs cells slots ls ws X hP hD hL hS hc hs hl
  by_cases ht : t < 3
  · obtain ⟨q, hq⟩ := (hL a _).mp (cellOf_arr hK ht)
    exact va_alen X.1 X.2.1 hX.2.1 hP q t hq (gTy_at ht9) hv hd k1
  · obtain ⟨q, hq⟩ := (hL a _).mp (cellOf_ref hK ht)
    exact va_alen X.1 X.2.1 hX.2.1 hP q t hq (gTy_at ht9) hv hd k1
/-- the script -/
theorem AW_sld {i : Int32} (hd : decode (mC M) pc = .ok (.iaload, 1)) (hi : vp_in i (gSL G)) (kk : AW G M Q b h (pc + 1) lv (.int (gSx G i.toNatClampNeg) :: st)) : AW G M Q b h pc lv (.int i :: .ref (gSb G) :: st) := by
  intro p l e s m args below meth c H locs cells slots ls ws X hP hD hL hS hc hs hl
  have hH := X.2.2.2.2.2.2.2.2.2
  have hX := X.2.2.2.2.2.2.2.2.1
  exact va_sld X.1 X.2.1 hH.2.2.2.2.2.1 (Nat.lt_of_lt_of_le hH.2.2.2.2.2.2 hX.1) (Nat.not_le.mpr hH.2.2.2.2.2.2) hS hi hd (kk p l e s m args below meth c H locs cells slots ls ws X hP hD hL hS hc hs hl)
theorem AW_slen (hd : decode (mC M) pc = .ok (.arraylength, 1)) (kk : AW G M Q b h (pc + 1) lv (.int (Int32.ofNat (gSL G)) :: st)) : AW G M Q b h pc lv (.ref (gSb G) :: st) := by
  intro p l e s m args below meth c H locs cells slots ls ws X hP hD hL hS hc hs hl
  have hH := X.2.2.2.2.2.2.2.2.2
  have hX := X.2.2.2.2.2.2.2.2.1
  exact va_slen X.1 X.2.1 hH.2.2.2.2.2.1 (Nat.lt_of_lt_of_le hH.2.2.2.2.2.2 hX.1) (Nat.not_le.mpr hH.2.2.2.2.2.2) hS hd (kk p l e s m args below meth c H locs cells slots ls ws X hP hD hL hS hc hs hl)
end AWH
