/-! ===== the reference: small methods (printed by h12.py) ===== -/
def inB (v l m : Int32) : Bool := decide (l ≤ v) && decide (v ≤ m)
theorem inB_t {v l m : Int32} : inB v l m = true ↔ l ≤ v ∧ v ≤ m := by simp [inB]
theorem inB_f {v l m : Int32} : inB v l m = false ↔ v < l ∨ m < v := by
  rw [← Bool.not_eq_true, inB_t, Classical.not_and_iff_not_or_not, Int32.not_le, Int32.not_le]
/-- how far a target is from its meridian -/
def airS (m n s : Int32) : Int32 := if s - m + n < 0 then -(s - m + n) else s - m + n
def airT (f : Tf) (g : Tg) (t s : Int32) : Int32 := airS (g 3 t.toNatClampNeg) (f 1) s
def visT (f : Tf) (g : Tg) (t s : Int32) : Bool := decide (airT f g t s ≤ g 4 t.toNatClampNeg)
abbrev MX9_in : Mi := (yX9_in, cX9_in, 3, some .boolean, { frames := 0, cells := 0, slots := 0, locals := 0 })
theorem nmX9_in : Nm yX9_in 3 := ⟨by decide +kernel, by decide +kernel, by decide +kernel⟩
theorem vcX9_in_0 {G : Gl} {o : Nat} {ad : Nat → Nat} {h0 : Hp} {Q : Option Value → Tf → Tg → Te → Prop} (f : Tf) (g : Tg) (e : Te) (v : Int32) (least : Int32) (most : Int32) (hv : ((v < least → Q (some (.int 0)) f g e) ∧ (¬ v < least → ((most < v → Q (some (.int 0)) f g e) ∧ (¬ most < v → Q (some (.int 1)) f g e))))) :
    AWT G o ad h0 MX9_in Q f g e 0 [(0, .int v), (1, .int least), (2, .int most)] [] := by
  refine AWT_iload_n (pc := 0) dX9_in_0 rfl 0 rfl ?_
  refine AWT_iload_n (pc := 1) dX9_in_1 rfl 1 rfl ?_
  refine AWT_icmp_lt (pc := 2) (tgt := 14) dX9_in_2 (by decide) (fun c1 => ?_) (fun c1 => ?_)
  · have hv := hv.1 c1
    refine AWT_iconst (pc := 14) (v := 0) dX9_in_14 (by decide) ?_
    exact AWT_iret (pc := 15) rfl (by decide) dX9_in_15 hv
  · have hv := hv.2 c1
    refine AWT_iload_n (pc := 5) dX9_in_5 rfl 0 rfl ?_
    refine AWT_iload_n (pc := 6) dX9_in_6 rfl 2 rfl ?_
    refine AWT_icmp_gt (pc := 7) (tgt := 14) dX9_in_7 (by decide) (fun c2 => ?_) (fun c2 => ?_)
    · have hv := hv.1 c2
      refine AWT_iconst (pc := 14) (v := 0) dX9_in_14 (by decide) ?_
      exact AWT_iret (pc := 15) rfl (by decide) dX9_in_15 hv
    · have hv := hv.2 c2
      refine AWT_iconst (pc := 10) (v := 1) dX9_in_10 (by decide) ?_
      refine AWT_goto (pc := 11) (tgt := 15) dX9_in_11 (by decide) ?_
      exact AWT_iret (pc := 15) rfl (by decide) dX9_in_15 hv
theorem mcX9_in {G : Gl} {o : Nat} {ad : Nat → Nat} (f : Tf) (g : Tg) (e : Te) (v : Int32) (least : Int32) (most : Int32)  : MCT G o ad MX9_in [.int v, .int least, .int most] f g e (fun v0 f1 g1 e1 => v0 = some (.int (bI (inB v least most))) ∧ f = f1 ∧ g = g1 ∧ e = e1) := by
  refine MCT.of ⟨rfl, rfl⟩ (by decide) (Nat.le_of_ble_eq_true rfl) rfl (fun h0 => vcX9_in_0 f g e v least most ?_)
  refine ⟨fun c => ⟨?_, rfl, rfl, rfl⟩, fun c => ⟨fun c2 => ⟨?_, rfl, rfl, rfl⟩, fun c2 => ⟨?_, rfl, rfl, rfl⟩⟩⟩
  · rw [inB_f.mpr (Or.inl c)]; rfl
  · rw [inB_f.mpr (Or.inr c2)]; rfl
  · rw [inB_t.mpr ⟨Int32.not_lt.mp c, Int32.not_lt.mp c2⟩]; rfl
abbrev MX9_isSlot : Mi := (yX9_isSlot, cX9_isSlot, 2, some .boolean, { frames := 1, cells := 0, slots := 0, locals := 22 })
theorem nmX9_isSlot : Nm yX9_isSlot 1 := ⟨by decide +kernel, by decide +kernel, by decide +kernel⟩
theorem vcX9_isSlot_0 {G : Gl} {o : Nat} {ad : Nat → Nat} {h0 : Hp} {Q : Option Value → Tf → Tg → Te → Prop} (f : Tf) (g : Tg) (e : Te) (s : Int32) (hv : Q (some (.int (bI (inB s 0 ((f 0) - 1))))) f g e) :
    AWT G o ad h0 MX9_isSlot Q f g e 0 [(0, .ref o), (1, .int s)] [] := by
  refine AWT_iload_n (pc := 0) dX9_isSlot_0 rfl 1 rfl ?_
  refine AWT_iconst (pc := 1) (v := 0) dX9_isSlot_1 (by decide) ?_
  refine AWT_aload_n (pc := 2) dX9_isSlot_2 rfl 0 rfl ?_
  refine AWT_getI (pc := 3) 0 (by decide) rfl (FL.o q1043) dX9_isSlot_3 ?_
  refine AWT_iconst (pc := 6) (v := 1) dX9_isSlot_6 (by decide) ?_
  refine AWT_isub (pc := 7) dX9_isSlot_7 ?_
  refine AWT_callS (M' := MX9_in) (pc := 8) [.int s, .int 0, .int ((f 0) - 1)] [] nmX9_in ⟨rfl, rfl⟩ (ML.o q1180) q1181 q82 q1182 dX9_isSlot_8 rfl rfl (Nat.le_of_ble_eq_true rfl) ⟨Nat.le_of_ble_eq_true rfl, Nat.le_of_ble_eq_true rfl⟩ (mcX9_in f g e s 0 ((f 0) - 1) ) ?_
  rintro _ _ _ _ ⟨rfl, rfl, rfl, rfl⟩
  exact AWT_iret (pc := 11) rfl (bI_nar _) dX9_isSlot_11 hv
theorem mcX9_isSlot {G : Gl} {o : Nat} {ad : Nat → Nat} (f : Tf) (g : Tg) (e : Te) (s : Int32)  : MCT G o ad MX9_isSlot [.ref o, .int s] f g e (fun v0 f1 g1 e1 => v0 = some (.int (bI (inB s 0 (f 0 - 1)))) ∧ f = f1 ∧ g = g1 ∧ e = e1) := by
  refine MCT.of ⟨rfl, rfl⟩ (by decide) (Nat.le_of_ble_eq_true rfl) rfl (fun h0 => vcX9_isSlot_0 f g e s ?_)
  exact ⟨rfl, rfl, rfl, rfl⟩
abbrev MX9_isTarget : Mi := (yX9_isTarget, cX9_isTarget, 2, some .boolean, { frames := 1, cells := 0, slots := 0, locals := 22 })
theorem nmX9_isTarget : Nm yX9_isTarget 1 := ⟨by decide +kernel, by decide +kernel, by decide +kernel⟩
theorem vcX9_isTarget_0 {G : Gl} {o : Nat} {ad : Nat → Nat} {h0 : Hp} {Q : Option Value → Tf → Tg → Te → Prop} (f : Tf) (g : Tg) (e : Te) (t : Int32) (hv : Q (some (.int (bI (inB t 0 ((f 2) - 1))))) f g e) :
    AWT G o ad h0 MX9_isTarget Q f g e 0 [(0, .ref o), (1, .int t)] [] := by
  refine AWT_iload_n (pc := 0) dX9_isTarget_0 rfl 1 rfl ?_
  refine AWT_iconst (pc := 1) (v := 0) dX9_isTarget_1 (by decide) ?_
  refine AWT_aload_n (pc := 2) dX9_isTarget_2 rfl 0 rfl ?_
  refine AWT_getI (pc := 3) 2 (by decide) rfl (FL.o q1045) dX9_isTarget_3 ?_
  refine AWT_iconst (pc := 6) (v := 1) dX9_isTarget_6 (by decide) ?_
  refine AWT_isub (pc := 7) dX9_isTarget_7 ?_
  refine AWT_callS (M' := MX9_in) (pc := 8) [.int t, .int 0, .int ((f 2) - 1)] [] nmX9_in ⟨rfl, rfl⟩ (ML.o q1180) q1181 q82 q1182 dX9_isTarget_8 rfl rfl (Nat.le_of_ble_eq_true rfl) ⟨Nat.le_of_ble_eq_true rfl, Nat.le_of_ble_eq_true rfl⟩ (mcX9_in f g e t 0 ((f 2) - 1) ) ?_
  rintro _ _ _ _ ⟨rfl, rfl, rfl, rfl⟩
  exact AWT_iret (pc := 11) rfl (bI_nar _) dX9_isTarget_11 hv
theorem mcX9_isTarget {G : Gl} {o : Nat} {ad : Nat → Nat} (f : Tf) (g : Tg) (e : Te) (t : Int32)  : MCT G o ad MX9_isTarget [.ref o, .int t] f g e (fun v0 f1 g1 e1 => v0 = some (.int (bI (inB t 0 (f 2 - 1)))) ∧ f = f1 ∧ g = g1 ∧ e = e1) := by
  refine MCT.of ⟨rfl, rfl⟩ (by decide) (Nat.le_of_ble_eq_true rfl) rfl (fun h0 => vcX9_isTarget_0 f g e t ?_)
  exact ⟨rfl, rfl, rfl, rfl⟩
abbrev MX9_isPlan : Mi := (yX9_isPlan, cX9_isPlan, 2, some .boolean, { frames := 1, cells := 0, slots := 0, locals := 22 })
theorem nmX9_isPlan : Nm yX9_isPlan 1 := ⟨by decide +kernel, by decide +kernel, by decide +kernel⟩
theorem vcX9_isPlan_0 {G : Gl} {o : Nat} {ad : Nat → Nat} {h0 : Hp} {Q : Option Value → Tf → Tg → Te → Prop} (f : Tf) (g : Tg) (e : Te) (p : Int32) (hv : Q (some (.int (bI (inB p 0 ((f 21) - 1))))) f g e) :
    AWT G o ad h0 MX9_isPlan Q f g e 0 [(0, .ref o), (1, .int p)] [] := by
  refine AWT_iload_n (pc := 0) dX9_isPlan_0 rfl 1 rfl ?_
  refine AWT_iconst (pc := 1) (v := 0) dX9_isPlan_1 (by decide) ?_
  refine AWT_aload_n (pc := 2) dX9_isPlan_2 rfl 0 rfl ?_
  refine AWT_getI (pc := 3) 21 (by decide) rfl (FL.o q1064) dX9_isPlan_3 ?_
  refine AWT_iconst (pc := 6) (v := 1) dX9_isPlan_6 (by decide) ?_
  refine AWT_isub (pc := 7) dX9_isPlan_7 ?_
  refine AWT_callS (M' := MX9_in) (pc := 8) [.int p, .int 0, .int ((f 21) - 1)] [] nmX9_in ⟨rfl, rfl⟩ (ML.o q1180) q1181 q82 q1182 dX9_isPlan_8 rfl rfl (Nat.le_of_ble_eq_true rfl) ⟨Nat.le_of_ble_eq_true rfl, Nat.le_of_ble_eq_true rfl⟩ (mcX9_in f g e p 0 ((f 21) - 1) ) ?_
  rintro _ _ _ _ ⟨rfl, rfl, rfl, rfl⟩
  exact AWT_iret (pc := 11) rfl (bI_nar _) dX9_isPlan_11 hv
theorem mcX9_isPlan {G : Gl} {o : Nat} {ad : Nat → Nat} (f : Tf) (g : Tg) (e : Te) (p : Int32)  : MCT G o ad MX9_isPlan [.ref o, .int p] f g e (fun v0 f1 g1 e1 => v0 = some (.int (bI (inB p 0 (f 21 - 1)))) ∧ f = f1 ∧ g = g1 ∧ e = e1) := by
  refine MCT.of ⟨rfl, rfl⟩ (by decide) (Nat.le_of_ble_eq_true rfl) rfl (fun h0 => vcX9_isPlan_0 f g e p ?_)
  exact ⟨rfl, rfl, rfl, rfl⟩
abbrev MX9_isSky : Mi := (yX9_isSky, cX9_isSky, 2, some .boolean, { frames := 1, cells := 0, slots := 0, locals := 22 })
theorem nmX9_isSky : Nm yX9_isSky 1 := ⟨by decide +kernel, by decide +kernel, by decide +kernel⟩
theorem vcX9_isSky_0 {G : Gl} {o : Nat} {ad : Nat → Nat} {h0 : Hp} {Q : Option Value → Tf → Tg → Te → Prop} (f : Tf) (g : Tg) (e : Te) (k : Int32) (hv : Q (some (.int (bI (inB k 0 (1 + (f 10)))))) f g e) :
    AWT G o ad h0 MX9_isSky Q f g e 0 [(0, .ref o), (1, .int k)] [] := by
  refine AWT_iload_n (pc := 0) dX9_isSky_0 rfl 1 rfl ?_
  refine AWT_iconst (pc := 1) (v := 0) dX9_isSky_1 (by decide) ?_
  refine AWT_iconst (pc := 2) (v := 1) dX9_isSky_2 (by decide) ?_
  refine AWT_aload_n (pc := 3) dX9_isSky_3 rfl 0 rfl ?_
  refine AWT_getI (pc := 4) 10 (by decide) rfl (FL.o q1053) dX9_isSky_4 ?_
  refine AWT_iadd (pc := 7) dX9_isSky_7 ?_
  refine AWT_callS (M' := MX9_in) (pc := 8) [.int k, .int 0, .int (1 + (f 10))] [] nmX9_in ⟨rfl, rfl⟩ (ML.o q1180) q1181 q82 q1182 dX9_isSky_8 rfl rfl (Nat.le_of_ble_eq_true rfl) ⟨Nat.le_of_ble_eq_true rfl, Nat.le_of_ble_eq_true rfl⟩ (mcX9_in f g e k 0 (1 + (f 10)) ) ?_
  rintro _ _ _ _ ⟨rfl, rfl, rfl, rfl⟩
  exact AWT_iret (pc := 11) rfl (bI_nar _) dX9_isSky_11 hv
theorem mcX9_isSky {G : Gl} {o : Nat} {ad : Nat → Nat} (f : Tf) (g : Tg) (e : Te) (k : Int32)  : MCT G o ad MX9_isSky [.ref o, .int k] f g e (fun v0 f1 g1 e1 => v0 = some (.int (bI (inB k 0 (1 + f 10)))) ∧ f = f1 ∧ g = g1 ∧ e = e1) := by
  refine MCT.of ⟨rfl, rfl⟩ (by decide) (Nat.le_of_ble_eq_true rfl) rfl (fun h0 => vcX9_isSky_0 f g e k ?_)
  exact ⟨rfl, rfl, rfl, rfl⟩
abbrev MX9_airOf : Mi := (yX9_airOf, cX9_airOf, 4, some .int, { frames := 0, cells := 0, slots := 0, locals := 0 })
theorem nmX9_airOf : Nm yX9_airOf 2 := ⟨by decide +kernel, by decide +kernel, by decide +kernel⟩
theorem vcX9_airOf_0 {G : Gl} {o : Nat} {ad : Nat → Nat} {h0 : Hp} {Q : Option Value → Tf → Tg → Te → Prop} (f : Tf) (g : Tg) (e : Te) (t : Int32) (s : Int32) (hv : vp_in t 8 ∧ ((0 ≤ ((s - (g 3 t.toNatClampNeg)) + (f 1)) → Q (some (.int ((s - (g 3 t.toNatClampNeg)) + (f 1)))) f g e) ∧ (¬ 0 ≤ ((s - (g 3 t.toNatClampNeg)) + (f 1)) → Q (some (.int (-((s - (g 3 t.toNatClampNeg)) + (f 1))))) f g e))) :
    AWT G o ad h0 MX9_airOf Q f g e 0 [(0, .ref o), (1, .int t), (2, .int s)] [] := by
  refine AWT_iload_n (pc := 0) dX9_airOf_0 rfl 2 rfl ?_
  refine AWT_aload_n (pc := 1) dX9_airOf_1 rfl 0 rfl ?_
  refine AWT_getA (pc := 2) 3 (by decide) rfl rfl (FL.o q1046) dX9_airOf_2 ?_
  refine AWT_iload_n (pc := 5) dX9_airOf_5 rfl 1 rfl ?_
  refine AWT_iald (pc := 6) (k := 3) (n := 8) rfl dX9_airOf_6 hv.1 ?_
  have hv := hv.2
  refine AWT_isub (pc := 7) dX9_airOf_7 ?_
  refine AWT_aload_n (pc := 8) dX9_airOf_8 rfl 0 rfl ?_
  refine AWT_getI (pc := 9) 1 (by decide) rfl (FL.o q1044) dX9_airOf_9 ?_
  refine AWT_iadd (pc := 12) dX9_airOf_12 ?_
  refine AWT_istore_n (pc := 13) (lv' := [(3, .int ((s - (g 3 t.toNatClampNeg)) + (f 1))), (0, .ref o), (1, .int t), (2, .int s)]) dX9_airOf_13 rfl (by decide) rfl ?_
  refine AWT_iload_n (pc := 14) dX9_airOf_14 rfl 0 rfl ?_
  refine AWT_if_ge (pc := 15) (tgt := 23) dX9_airOf_15 (by decide) (fun c1 => ?_) (fun c1 => ?_)
  · have hv := hv.1 c1
    refine AWT_iload_n (pc := 23) dX9_airOf_23 rfl 0 rfl ?_
    exact AWT_iret (pc := 24) rfl rfl dX9_airOf_24 hv
  · have hv := hv.2 c1
    refine AWT_iload_n (pc := 18) dX9_airOf_18 rfl 0 rfl ?_
    refine AWT_ineg (pc := 19) dX9_airOf_19 ?_
    refine AWT_goto (pc := 20) (tgt := 24) dX9_airOf_20 (by decide) ?_
    exact AWT_iret (pc := 24) rfl rfl dX9_airOf_24 hv
theorem mcX9_airOf {G : Gl} {o : Nat} {ad : Nat → Nat} (f : Tf) (g : Tg) (e : Te) (t : Int32) (s : Int32) (h1 : vp_in t 8) : MCT G o ad MX9_airOf [.ref o, .int t, .int s] f g e (fun v0 f1 g1 e1 => v0 = some (.int (airT f g t s)) ∧ f = f1 ∧ g = g1 ∧ e = e1) := by
  refine MCT.of ⟨rfl, rfl⟩ (by decide) (Nat.le_of_ble_eq_true rfl) rfl (fun h0 => vcX9_airOf_0 f g e t s ?_)
  refine ⟨h1, ⟨fun c => ⟨?_, rfl, rfl, rfl⟩, fun c => ⟨?_, rfl, rfl, rfl⟩⟩⟩
  · rw [airT, airS, if_neg (Int32.not_lt.mpr c)]
  · rw [airT, airS, if_pos (Int32.not_le.mp c)]
abbrev MX9_isVisible : Mi := (yX9_isVisible, cX9_isVisible, 3, some .boolean, { frames := 1, cells := 0, slots := 0, locals := 23 })
theorem nmX9_isVisible : Nm yX9_isVisible 2 := ⟨by decide +kernel, by decide +kernel, by decide +kernel⟩
theorem vcX9_isVisible_0 {G : Gl} {o : Nat} {ad : Nat → Nat} {h0 : Hp} {Q : Option Value → Tf → Tg → Te → Prop} (f : Tf) (g : Tg) (e : Te) (t : Int32) (s : Int32) (hv : (vp_in t 8) ∧ vp_in t 8 ∧ (((g 4 t.toNatClampNeg) < (airT f g t s) → Q (some (.int 0)) f g e) ∧ (¬ (g 4 t.toNatClampNeg) < (airT f g t s) → Q (some (.int 1)) f g e))) :
    AWT G o ad h0 MX9_isVisible Q f g e 0 [(0, .ref o), (1, .int t), (2, .int s)] [] := by
  refine AWT_aload_n (pc := 0) dX9_isVisible_0 rfl 0 rfl ?_
  refine AWT_iload_n (pc := 1) dX9_isVisible_1 rfl 1 rfl ?_
  refine AWT_iload_n (pc := 2) dX9_isVisible_2 rfl 2 rfl ?_
  have p1 := hv.1
  have hv := hv.2
  refine AWT_callV (M' := MX9_airOf) (pc := 3) [.int t, .int s] [] rfl nmX9_airOf ⟨rfl, rfl⟩ (ML.o q1203) q1205 qs41 q82 q1206 dX9_isVisible_3 rfl rfl (Nat.le_of_ble_eq_true rfl) ⟨Nat.le_of_ble_eq_true rfl, Nat.le_of_ble_eq_true rfl⟩ (mcX9_airOf f g e t s p1) ?_
  rintro _ _ _ _ ⟨rfl, rfl, rfl, rfl⟩
  refine AWT_aload_n (pc := 6) dX9_isVisible_6 rfl 0 rfl ?_
  refine AWT_getA (pc := 7) 4 (by decide) rfl rfl (FL.o q1047) dX9_isVisible_7 ?_
  refine AWT_iload_n (pc := 10) dX9_isVisible_10 rfl 1 rfl ?_
  refine AWT_iald (pc := 11) (k := 4) (n := 8) rfl dX9_isVisible_11 hv.1 ?_
  have hv := hv.2
  refine AWT_icmp_gt (pc := 12) (tgt := 19) dX9_isVisible_12 (by decide) (fun c2 => ?_) (fun c2 => ?_)
  · have hv := hv.1 c2
    refine AWT_iconst (pc := 19) (v := 0) dX9_isVisible_19 (by decide) ?_
    exact AWT_iret (pc := 20) rfl (by decide) dX9_isVisible_20 hv
  · have hv := hv.2 c2
    refine AWT_iconst (pc := 15) (v := 1) dX9_isVisible_15 (by decide) ?_
    refine AWT_goto (pc := 16) (tgt := 20) dX9_isVisible_16 (by decide) ?_
    exact AWT_iret (pc := 20) rfl (by decide) dX9_isVisible_20 hv
theorem mcX9_isVisible {G : Gl} {o : Nat} {ad : Nat → Nat} (f : Tf) (g : Tg) (e : Te) (t : Int32) (s : Int32) (h1 : vp_in t 8) : MCT G o ad MX9_isVisible [.ref o, .int t, .int s] f g e (fun v0 f1 g1 e1 => v0 = some (.int (bI (visT f g t s))) ∧ f = f1 ∧ g = g1 ∧ e = e1) := by
  refine MCT.of ⟨rfl, rfl⟩ (by decide) (Nat.le_of_ble_eq_true rfl) rfl (fun h0 => vcX9_isVisible_0 f g e t s ?_)
  refine ⟨h1, h1, ⟨fun c => ⟨?_, rfl, rfl, rfl⟩, fun c => ⟨?_, rfl, rfl, rfl⟩⟩⟩
  · rw [visT, decide_eq_false (Int32.not_le.mpr c)]; rfl
  · rw [visT, decide_eq_true (Int32.not_lt.mp c)]; rfl
