/-! ===== the reference: small methods of watches and nights (printed by h25.py) ===== -/
def gwT (g : Tg) (p k x i : Int32) : Bool := decide (((if g 22 (23 * p + 1).toNatClampNeg = i then g 24 (200 * p + k).toNatClampNeg else g 25 (200 * p + k).toNatClampNeg) &&& x) = 0)
abbrev MX9_goWith : Mi := (yX9_goWith, cX9_goWith, 5, some .boolean, { frames := 0, cells := 0, slots := 0, locals := 0 })
theorem nmX9_goWith : Nm yX9_goWith 4 := ⟨by decide +kernel, by decide +kernel, by decide +kernel⟩
theorem vcX9_goWith_0 {G : Gl} {o : Nat} {ad : Nat → Nat} {h0 : Hp} {Q : Option Value → Tf → Tg → Te → Prop} (f : Tf) (g : Tg) (e : Te) (p : Int32) (k : Int32) (x : Int32) (i : Int32) (hv : vp_in ((23 * p) + 1) 138 ∧ ((¬ (g 22 ((23 * p) + 1).toNatClampNeg) = i → vp_in ((200 * p) + k) 1000 ∧ ((¬ ((g 25 ((200 * p) + k).toNatClampNeg) &&& x) = 0 → Q (some (.int 0)) f g e) ∧ (((g 25 ((200 * p) + k).toNatClampNeg) &&& x) = 0 → Q (some (.int 1)) f g e))) ∧ ((g 22 ((23 * p) + 1).toNatClampNeg) = i → vp_in ((200 * p) + k) 1000 ∧ ((¬ ((g 24 ((200 * p) + k).toNatClampNeg) &&& x) = 0 → Q (some (.int 0)) f g e) ∧ (((g 24 ((200 * p) + k).toNatClampNeg) &&& x) = 0 → Q (some (.int 1)) f g e))))) :
    AWT G o ad h0 MX9_goWith Q f g e 0 [(0, .ref o), (1, .int p), (2, .int k), (3, .int x), (4, .int i)] [] := by
  refine AWT_aload_n (pc := 0) dX9_goWith_0 rfl 0 rfl ?_
  refine AWT_getA (pc := 1) 22 (by decide) rfl rfl (FL.o q1065) dX9_goWith_1 ?_
  refine AWT_bipush (pc := 4) (v := 23) dX9_goWith_4 (by decide) ?_
  refine AWT_iload_n (pc := 6) dX9_goWith_6 rfl 1 rfl ?_
  refine AWT_imul (pc := 7) dX9_goWith_7 ?_
  refine AWT_iconst (pc := 8) (v := 1) dX9_goWith_8 (by decide) ?_
  refine AWT_iadd (pc := 9) dX9_goWith_9 ?_
  refine AWT_iald (pc := 10) (k := 22) (n := 138) rfl dX9_goWith_10 hv.1 ?_
  have hv := hv.2
  refine AWT_iload (pc := 11) dX9_goWith_11 4 rfl ?_
  refine AWT_icmp_ne (pc := 13) (tgt := 31) dX9_goWith_13 (by decide) (fun c1 => ?_) (fun c1 => ?_)
  · have hv := hv.1 c1
    refine AWT_aload_n (pc := 31) dX9_goWith_31 rfl 0 rfl ?_
    refine AWT_getA (pc := 32) 25 (by decide) rfl rfl (FL.o q1068) dX9_goWith_32 ?_
    refine AWT_sipush (pc := 35) (v := 200) dX9_goWith_35 (by decide) ?_
    refine AWT_iload_n (pc := 38) dX9_goWith_38 rfl 1 rfl ?_
    refine AWT_imul (pc := 39) dX9_goWith_39 ?_
    refine AWT_iload_n (pc := 40) dX9_goWith_40 rfl 2 rfl ?_
    refine AWT_iadd (pc := 41) dX9_goWith_41 ?_
    refine AWT_iald (pc := 42) (k := 25) (n := 1000) rfl dX9_goWith_42 hv.1 ?_
    have hv := hv.2
    refine AWT_iload_n (pc := 43) dX9_goWith_43 rfl 3 rfl ?_
    refine AWT_iand (pc := 44) dX9_goWith_44 ?_
    refine AWT_if_ne (pc := 45) (tgt := 52) dX9_goWith_45 (by decide) (fun c2 => ?_) (fun c2 => ?_)
    · have hv := hv.1 c2
      refine AWT_iconst (pc := 52) (v := 0) dX9_goWith_52 (by decide) ?_
      exact AWT_iret (pc := 53) rfl (by decide) dX9_goWith_53 hv
    · have hv := hv.2 c2
      refine AWT_iconst (pc := 48) (v := 1) dX9_goWith_48 (by decide) ?_
      refine AWT_goto (pc := 49) (tgt := 53) dX9_goWith_49 (by decide) ?_
      exact AWT_iret (pc := 53) rfl (by decide) dX9_goWith_53 hv
  · have hv := hv.2 c1
    refine AWT_aload_n (pc := 16) dX9_goWith_16 rfl 0 rfl ?_
    refine AWT_getA (pc := 17) 24 (by decide) rfl rfl (FL.o q1067) dX9_goWith_17 ?_
    refine AWT_sipush (pc := 20) (v := 200) dX9_goWith_20 (by decide) ?_
    refine AWT_iload_n (pc := 23) dX9_goWith_23 rfl 1 rfl ?_
    refine AWT_imul (pc := 24) dX9_goWith_24 ?_
    refine AWT_iload_n (pc := 25) dX9_goWith_25 rfl 2 rfl ?_
    refine AWT_iadd (pc := 26) dX9_goWith_26 ?_
    refine AWT_iald (pc := 27) (k := 24) (n := 1000) rfl dX9_goWith_27 hv.1 ?_
    have hv := hv.2
    refine AWT_goto (pc := 28) (tgt := 43) dX9_goWith_28 (by decide) ?_
    refine AWT_iload_n (pc := 43) dX9_goWith_43 rfl 3 rfl ?_
    refine AWT_iand (pc := 44) dX9_goWith_44 ?_
    refine AWT_if_ne (pc := 45) (tgt := 52) dX9_goWith_45 (by decide) (fun c3 => ?_) (fun c3 => ?_)
    · have hv := hv.1 c3
      refine AWT_iconst (pc := 52) (v := 0) dX9_goWith_52 (by decide) ?_
      exact AWT_iret (pc := 53) rfl (by decide) dX9_goWith_53 hv
    · have hv := hv.2 c3
      refine AWT_iconst (pc := 48) (v := 1) dX9_goWith_48 (by decide) ?_
      refine AWT_goto (pc := 49) (tgt := 53) dX9_goWith_49 (by decide) ?_
      exact AWT_iret (pc := 53) rfl (by decide) dX9_goWith_53 hv
theorem mcX9_goWith {G : Gl} {o : Nat} {ad : Nat → Nat} (f : Tf) (g : Tg) (e : Te) (p : Int32) (k : Int32) (x : Int32) (i : Int32) (h1 : vp_in p 5) (h2 : vp_in (200 * p + k) 1000) : MCT G o ad MX9_goWith [.ref o, .int p, .int k, .int x, .int i] f g e (fun v0 f1 g1 e1 => v0 = some (.int (bI (gwT g p k x i))) ∧ f = f1 ∧ g = g1 ∧ e = e1) := by
  refine MCT.of ⟨rfl, rfl⟩ (by decide) (Nat.le_of_ble_eq_true rfl) rfl (fun h0 => vcX9_goWith_0 f g e p k x i ?_)
  have hin : vp_in (23 * p + 1) 138 := by
    obtain ⟨j, hj, rfl⟩ := vp_in_of h1 (by decide)
    rw [lm 23 j, ra _ 1]
    exact vp_in_nI (by omega) (by decide)
  refine ⟨hin, fun c => ⟨h2, fun c2 => ?_, fun c2 => ?_⟩, fun c => ⟨h2, fun c2 => ?_, fun c2 => ?_⟩⟩
  all_goals simp [gwT, c, c2, bI]
def brkT (f : Tf) (g : Tg) (p : Int32) : Tg := up2 (up2 g 34 p.toNatClampNeg (bI true)) 32 p.toNatClampNeg (if f 31 = 1 ∧ g 34 p.toNatClampNeg = 0 then 0 else 9)
abbrev MX9_breakChain : Mi := (yX9_breakChain, cX9_breakChain, 3, none, { frames := 0, cells := 0, slots := 0, locals := 0 })
theorem nmX9_breakChain : Nm yX9_breakChain 1 := ⟨by decide +kernel, by decide +kernel, by decide +kernel⟩
theorem vcX9_breakChain_0 {G : Gl} {o : Nat} {ad : Nat → Nat} {h0 : Hp} {Q : Option Value → Tf → Tg → Te → Prop} (f : Tf) (g : Tg) (e : Te) (p : Int32) (hv : ((¬ (f 31) = 1 → vp_in p 5 ∧ vp_in p 5 ∧ Q none f (up2 (up2 g 34 p.toNatClampNeg (bI true)) 32 p.toNatClampNeg 9) e) ∧ ((f 31) = 1 → vp_in p 5 ∧ ((¬ (g 34 p.toNatClampNeg) = 0 → vp_in p 5 ∧ vp_in p 5 ∧ Q none f (up2 (up2 g 34 p.toNatClampNeg (bI true)) 32 p.toNatClampNeg 9) e) ∧ ((g 34 p.toNatClampNeg) = 0 → vp_in p 5 ∧ vp_in p 5 ∧ Q none f (up2 (up2 g 34 p.toNatClampNeg (bI true)) 32 p.toNatClampNeg 0) e))))) :
    AWT G o ad h0 MX9_breakChain Q f g e 0 [(0, .ref o), (1, .int p)] [] := by
  refine AWT_aload_n (pc := 0) dX9_breakChain_0 rfl 0 rfl ?_
  refine AWT_getI (pc := 1) 31 (by decide) rfl (FL.o q1074) dX9_breakChain_1 ?_
  refine AWT_iconst (pc := 4) (v := 1) dX9_breakChain_4 (by decide) ?_
  refine AWT_icmp_ne (pc := 5) (tgt := 21) dX9_breakChain_5 (by decide) (fun c1 => ?_) (fun c1 => ?_)
  · have hv := hv.1 c1
    refine AWT_iconst (pc := 21) (v := 0) dX9_breakChain_21 (by decide) ?_
    refine AWT_istore_n (pc := 22) (lv' := [(2, .int 0), (0, .ref o), (1, .int p)]) dX9_breakChain_22 rfl (by decide) rfl ?_
    refine AWT_aload_n (pc := 23) dX9_breakChain_23 rfl 1 rfl ?_
    refine AWT_getA (pc := 24) 34 (by decide) rfl rfl (FL.o q1077) dX9_breakChain_24 ?_
    refine AWT_iload_n (pc := 27) dX9_breakChain_27 rfl 2 rfl ?_
    refine AWT_iconst (pc := 28) (v := 1) dX9_breakChain_28 (by decide) ?_
    refine AWT_zast (pc := 29) (k := 34) (n := 5) (p := true) rfl rfl dX9_breakChain_29 hv.1 ?_
    have hv := hv.2
    refine AWT_aload_n (pc := 30) dX9_breakChain_30 rfl 1 rfl ?_
    refine AWT_getA (pc := 31) 32 (by decide) rfl rfl (FL.o q1075) dX9_breakChain_31 ?_
    refine AWT_iload_n (pc := 34) dX9_breakChain_34 rfl 2 rfl ?_
    refine AWT_iload_n (pc := 35) dX9_breakChain_35 rfl 0 rfl ?_
    refine AWT_if_eq (pc := 36) (tgt := 43) dX9_breakChain_36 (by decide) (fun z => ?_) (fun z => absurd z (by decide))
    refine AWT_bipush (pc := 43) (v := 9) dX9_breakChain_43 (by decide) ?_
    refine AWT_iast (pc := 45) (k := 32) (n := 5) rfl dX9_breakChain_45 hv.1 ?_
    have hv := hv.2
    exact AWT_vret (pc := 46) rfl dX9_breakChain_46 hv
  · have hv := hv.2 c1
    refine AWT_aload_n (pc := 8) dX9_breakChain_8 rfl 0 rfl ?_
    refine AWT_getA (pc := 9) 34 (by decide) rfl rfl (FL.o q1077) dX9_breakChain_9 ?_
    refine AWT_iload_n (pc := 12) dX9_breakChain_12 rfl 1 rfl ?_
    refine AWT_zald (pc := 13) (k := 34) (n := 5) rfl dX9_breakChain_13 hv.1 ?_
    have hv := hv.2
    refine AWT_if_ne (pc := 14) (tgt := 21) dX9_breakChain_14 (by decide) (fun c2 => ?_) (fun c2 => ?_)
    · have hv := hv.1 c2
      refine AWT_iconst (pc := 21) (v := 0) dX9_breakChain_21 (by decide) ?_
      refine AWT_istore_n (pc := 22) (lv' := [(2, .int 0), (0, .ref o), (1, .int p)]) dX9_breakChain_22 rfl (by decide) rfl ?_
      refine AWT_aload_n (pc := 23) dX9_breakChain_23 rfl 1 rfl ?_
      refine AWT_getA (pc := 24) 34 (by decide) rfl rfl (FL.o q1077) dX9_breakChain_24 ?_
      refine AWT_iload_n (pc := 27) dX9_breakChain_27 rfl 2 rfl ?_
      refine AWT_iconst (pc := 28) (v := 1) dX9_breakChain_28 (by decide) ?_
      refine AWT_zast (pc := 29) (k := 34) (n := 5) (p := true) rfl rfl dX9_breakChain_29 hv.1 ?_
      have hv := hv.2
      refine AWT_aload_n (pc := 30) dX9_breakChain_30 rfl 1 rfl ?_
      refine AWT_getA (pc := 31) 32 (by decide) rfl rfl (FL.o q1075) dX9_breakChain_31 ?_
      refine AWT_iload_n (pc := 34) dX9_breakChain_34 rfl 2 rfl ?_
      refine AWT_iload_n (pc := 35) dX9_breakChain_35 rfl 0 rfl ?_
      refine AWT_if_eq (pc := 36) (tgt := 43) dX9_breakChain_36 (by decide) (fun z => ?_) (fun z => absurd z (by decide))
      refine AWT_bipush (pc := 43) (v := 9) dX9_breakChain_43 (by decide) ?_
      refine AWT_iast (pc := 45) (k := 32) (n := 5) rfl dX9_breakChain_45 hv.1 ?_
      have hv := hv.2
      exact AWT_vret (pc := 46) rfl dX9_breakChain_46 hv
    · have hv := hv.2 c2
      refine AWT_iconst (pc := 17) (v := 1) dX9_breakChain_17 (by decide) ?_
      refine AWT_goto (pc := 18) (tgt := 22) dX9_breakChain_18 (by decide) ?_
      refine AWT_istore_n (pc := 22) (lv' := [(2, .int 1), (0, .ref o), (1, .int p)]) dX9_breakChain_22 rfl (by decide) rfl ?_
      refine AWT_aload_n (pc := 23) dX9_breakChain_23 rfl 1 rfl ?_
      refine AWT_getA (pc := 24) 34 (by decide) rfl rfl (FL.o q1077) dX9_breakChain_24 ?_
      refine AWT_iload_n (pc := 27) dX9_breakChain_27 rfl 2 rfl ?_
      refine AWT_iconst (pc := 28) (v := 1) dX9_breakChain_28 (by decide) ?_
      refine AWT_zast (pc := 29) (k := 34) (n := 5) (p := true) rfl rfl dX9_breakChain_29 hv.1 ?_
      have hv := hv.2
      refine AWT_aload_n (pc := 30) dX9_breakChain_30 rfl 1 rfl ?_
      refine AWT_getA (pc := 31) 32 (by decide) rfl rfl (FL.o q1075) dX9_breakChain_31 ?_
      refine AWT_iload_n (pc := 34) dX9_breakChain_34 rfl 2 rfl ?_
      refine AWT_iload_n (pc := 35) dX9_breakChain_35 rfl 0 rfl ?_
      refine AWT_if_eq (pc := 36) (tgt := 43) dX9_breakChain_36 (by decide) (fun z => absurd z (by decide)) (fun z => ?_)
      refine AWT_iconst (pc := 39) (v := 0) dX9_breakChain_39 (by decide) ?_
      refine AWT_goto (pc := 40) (tgt := 45) dX9_breakChain_40 (by decide) ?_
      refine AWT_iast (pc := 45) (k := 32) (n := 5) rfl dX9_breakChain_45 hv.1 ?_
      have hv := hv.2
      exact AWT_vret (pc := 46) rfl dX9_breakChain_46 hv
theorem mcX9_breakChain {G : Gl} {o : Nat} {ad : Nat → Nat} (f : Tf) (g : Tg) (e : Te) (p : Int32) (h1 : vp_in p 5) : MCT G o ad MX9_breakChain [.ref o, .int p] f g e (fun v0 f1 g1 e1 => v0 = none ∧ f = f1 ∧ brkT f g p = g1 ∧ e = e1) := by
  refine MCT.of ⟨rfl, rfl⟩ (by decide) (Nat.le_of_ble_eq_true rfl) rfl (fun h0 => vcX9_breakChain_0 f g e p ?_)
  refine ⟨fun c => ⟨h1, h1, rfl, rfl, ?_, rfl⟩, fun c => ⟨h1, fun c2 => ⟨h1, h1, rfl, rfl, ?_, rfl⟩, fun c2 => ⟨h1, h1, rfl, rfl, ?_, rfl⟩⟩⟩
  · unfold brkT
    rw [if_neg (fun z => c z.1)]
  · unfold brkT
    rw [if_neg (fun z => c2 z.2)]
  · unfold brkT
    rw [if_pos ⟨c, c2⟩]
/-- the last slot ahead of n with a property; none: -1 -/
def lastN (q : Nat → Bool) : Nat → Int32
  | 0 => -1
  | n + 1 => if q n then nI n else lastN q n
def lastT (f : Tf) (g : Tg) (p : Int32) : Int32 := lastN (fun s => visT f g (g 22 (23 * p + 2).toNatClampNeg) (nI s)) (nN f)
abbrev MX9_lastVisible : Mi := (yX9_lastVisible, cX9_lastVisible, 4, some .int, { frames := 2, cells := 0, slots := 0, locals := 45 })
theorem nmX9_lastVisible : Nm yX9_lastVisible 1 := ⟨by decide +kernel, by decide +kernel, by decide +kernel⟩
theorem vcX9_lastVisible_0 {G : Gl} {o : Nat} {ad : Nat → Nat} {h0 : Hp} {Q : Option Value → Tf → Tg → Te → Prop} (f : Tf) (g : Tg) (e : Te) (p : Int32) (hv : AWT G o ad h0 MX9_lastVisible Q f g e 4 [(0, .ref o), (1, .int p), (2, .int (-1)), (3, .int 0)] []) :
    AWT G o ad h0 MX9_lastVisible Q f g e 0 [(0, .ref o), (1, .int p)] [] := by
  refine AWT_iconst (pc := 0) (v := (-1)) dX9_lastVisible_0 (by decide) ?_
  refine AWT_istore_n (pc := 1) (lv' := [(2, .int (-1)), (0, .ref o), (1, .int p)]) dX9_lastVisible_1 rfl (by decide) rfl ?_
  refine AWT_iconst (pc := 2) (v := 0) dX9_lastVisible_2 (by decide) ?_
  refine AWT_istore_n (pc := 3) (lv' := [(3, .int 0), (2, .int (-1)), (0, .ref o), (1, .int p)]) dX9_lastVisible_3 rfl (by decide) rfl ?_
  refine AWT_lv (lv' := [(0, .ref o), (1, .int p), (2, .int (-1)), (3, .int 0)]) [2, 3, 1, 0] rfl ?_
  exact hv
theorem vcX9_lastVisible_4 {G : Gl} {o : Nat} {ad : Nat → Nat} {h0 : Hp} {Q : Option Value → Tf → Tg → Te → Prop} (f : Tf) (g : Tg) (e : Te) (p : Int32) (l : Int32) (s : Int32) (hv : (((f 0) ≤ s → Q (some (.int l)) f g e) ∧ (¬ (f 0) ≤ s → vp_in ((23 * p) + 2) 138 ∧ (vp_in (g 22 ((23 * p) + 2).toNatClampNeg) 8) ∧ (((visT f g (g 22 ((23 * p) + 2).toNatClampNeg) s) = false → AWT G o ad h0 MX9_lastVisible Q f g e 4 [(0, .ref o), (1, .int p), (2, .int l), (3, .int (s + 1))] []) ∧ ((visT f g (g 22 ((23 * p) + 2).toNatClampNeg) s) = true → AWT G o ad h0 MX9_lastVisible Q f g e 4 [(0, .ref o), (1, .int p), (2, .int s), (3, .int (s + 1))] []))))) :
    AWT G o ad h0 MX9_lastVisible Q f g e 4 [(0, .ref o), (1, .int p), (2, .int l), (3, .int s)] [] := by
  refine AWT_iload_n (pc := 4) dX9_lastVisible_4 rfl 3 rfl ?_
  refine AWT_aload_n (pc := 5) dX9_lastVisible_5 rfl 0 rfl ?_
  refine AWT_getI (pc := 6) 0 (by decide) rfl (FL.o q1043) dX9_lastVisible_6 ?_
  refine AWT_icmp_ge (pc := 9) (tgt := 43) dX9_lastVisible_9 (by decide) (fun c1 => ?_) (fun c1 => ?_)
  · have hv := hv.1 c1
    refine AWT_iload_n (pc := 43) dX9_lastVisible_43 rfl 2 rfl ?_
    exact AWT_iret (pc := 44) rfl rfl dX9_lastVisible_44 hv
  · have hv := hv.2 c1
    refine AWT_aload_n (pc := 12) dX9_lastVisible_12 rfl 0 rfl ?_
    refine AWT_aload_n (pc := 13) dX9_lastVisible_13 rfl 0 rfl ?_
    refine AWT_getA (pc := 14) 22 (by decide) rfl rfl (FL.o q1065) dX9_lastVisible_14 ?_
    refine AWT_bipush (pc := 17) (v := 23) dX9_lastVisible_17 (by decide) ?_
    refine AWT_iload_n (pc := 19) dX9_lastVisible_19 rfl 1 rfl ?_
    refine AWT_imul (pc := 20) dX9_lastVisible_20 ?_
    refine AWT_iconst (pc := 21) (v := 2) dX9_lastVisible_21 (by decide) ?_
    refine AWT_iadd (pc := 22) dX9_lastVisible_22 ?_
    refine AWT_iald (pc := 23) (k := 22) (n := 138) rfl dX9_lastVisible_23 hv.1 ?_
    have hv := hv.2
    refine AWT_iload_n (pc := 24) dX9_lastVisible_24 rfl 3 rfl ?_
    have p2 := hv.1
    have hv := hv.2
    refine AWT_callV (M' := MX9_isVisible) (pc := 25) [.int (g 22 ((23 * p) + 2).toNatClampNeg), .int s] [] rfl nmX9_isVisible ⟨rfl, rfl⟩ (ML.o q1199) q1201 qs40 q82 q1202 dX9_lastVisible_25 rfl rfl (Nat.le_of_ble_eq_true rfl) ⟨Nat.le_of_ble_eq_true rfl, Nat.le_of_ble_eq_true rfl⟩ (mcX9_isVisible f g e (g 22 ((23 * p) + 2).toNatClampNeg) s p2) ?_
    rintro _ _ _ _ ⟨rfl, rfl, rfl, rfl⟩
    refine AWT_ifb_eq (pc := 28) (tgt := 35) dX9_lastVisible_28 (by decide) (fun c3 => ?_) (fun c3 => ?_)
    · have hv := hv.1 c3
      refine AWT_iload_n (pc := 35) dX9_lastVisible_35 rfl 2 rfl ?_
      refine AWT_istore_n (pc := 36) (lv' := [(2, .int l), (0, .ref o), (1, .int p), (3, .int s)]) dX9_lastVisible_36 rfl (by decide) rfl ?_
      refine AWT_iinc (pc := 37) (v := s + 1) (lv' := [(3, .int (s + 1)), (2, .int l), (0, .ref o), (1, .int p)]) dX9_lastVisible_37 3 rfl rfl (by decide) rfl ?_
      refine AWT_goto (pc := 40) (tgt := 4) dX9_lastVisible_40 (by decide) ?_
      refine AWT_lv (lv' := [(0, .ref o), (1, .int p), (2, .int l), (3, .int (s + 1))]) [2, 3, 1, 0] rfl ?_
      exact hv
    · have hv := hv.2 c3
      refine AWT_iload_n (pc := 31) dX9_lastVisible_31 rfl 3 rfl ?_
      refine AWT_goto (pc := 32) (tgt := 36) dX9_lastVisible_32 (by decide) ?_
      refine AWT_istore_n (pc := 36) (lv' := [(2, .int s), (0, .ref o), (1, .int p), (3, .int s)]) dX9_lastVisible_36 rfl (by decide) rfl ?_
      refine AWT_iinc (pc := 37) (v := s + 1) (lv' := [(3, .int (s + 1)), (2, .int s), (0, .ref o), (1, .int p)]) dX9_lastVisible_37 3 rfl rfl (by decide) rfl ?_
      refine AWT_goto (pc := 40) (tgt := 4) dX9_lastVisible_40 (by decide) ?_
      refine AWT_lv (lv' := [(0, .ref o), (1, .int p), (2, .int s), (3, .int (s + 1))]) [2, 3, 1, 0] rfl ?_
      exact hv
theorem mcX9_lastVisible {G : Gl} {o : Nat} {ad : Nat → Nat} (f : Tf) (g : Tg) (e : Te) (p : Int32) (h1 : ∃ P : Nat, p = nI P ∧ PP f g P) : MCT G o ad MX9_lastVisible [.ref o, .int p] f g e (fun v0 f1 g1 e1 => v0 = some (.int (lastT f g p)) ∧ f = f1 ∧ g = g1 ∧ e = e1) := by
  refine MCT.of ⟨rfl, rfl⟩ (by decide) (Nat.le_of_ble_eq_true rfl) rfl (fun h0 => vcX9_lastVisible_0 f g e p ?_)
  obtain ⟨p, rfl, hP⟩ := h1
  have hp5 := hP.1
  obtain ⟨n, hn, hn4, hn12⟩ := hP.2.2.1
  have hnN : nN f = n := by unfold nN; rw [hn]; exact nc n
  have e2 : (23 * nI p + 2 : Int32).toNatClampNeg = 23 * p + 2 := by rw [lm 23 p, ra _ 2, nc (23 * p + 2)]
  have hin : vp_in (23 * nI p + 2) 138 := by rw [lm 23 p, ra _ 2]; exact vp_in_nI (by omega) (by decide)
  unfold lastT
  rw [hnN, e2]
  generalize hq : (fun s => visT f g (g 22 (23 * p + 2)) (nI s)) = q
  have hq' : ∀ s, visT f g (g 22 (23 * p + 2)) (nI s) = q s := fun s => by rw [← hq]
  refine loopUp (A := fun s => AWT G o ad h0 MX9_lastVisible (fun v0 f1 g1 e1 => v0 = some (.int (lastN q n)) ∧ f = f1 ∧ g = g1 ∧ e = e1) f g e 4 [(0, .ref o), (1, .int (nI p)), (2, .int (lastN q s)), (3, .int (nI s))] []) n ?_ ?_ 0 (by omega)
  · refine vcX9_lastVisible_4 f g e _ _ _ ?_
    rw [hn]
    exact pk_le n n (fun _ => ⟨rfl, rfl, rfl, rfl⟩) (fun z => by omega)
  · intro s hs ih
    refine vcX9_lastVisible_4 f g e _ _ _ ?_
    rw [hn]
    refine pk_le n s (fun z => by omega) (fun _ => ⟨hin, by rw [e2]; exact hP.tg, ?_⟩)
    rw [e2, hq', nI_1]
    refine ⟨fun c => ?_, fun c => ?_⟩
    · have : lastN q (s + 1) = lastN q s := by show (if q s then _ else _) = _; rw [c]; rfl
      rw [this] at ih
      exact ih
    · have : lastN q (s + 1) = nI s := by show (if q s then _ else _) = _; rw [c]; rfl
      rw [this] at ih
      exact ih
def aheadT (f : Tf) (g : Tg) (r p q s : Int32) : Bool := if r = 0 then !decide (wOf g p ≤ wOf g q) else if r = 1 then !decide (airT f g (g 22 (23 * q + 2).toNatClampNeg) s ≤ airT f g (g 22 (23 * p + 2).toNatClampNeg) s) else !decide (lastT f g q ≤ lastT f g p)
abbrev MX9_isAhead : Mi := (yX9_isAhead, cX9_isAhead, 5, some .boolean, { frames := 3, cells := 0, slots := 0, locals := 68 })
theorem nmX9_isAhead : Nm yX9_isAhead 4 := ⟨by decide +kernel, by decide +kernel, by decide +kernel⟩
theorem vcX9_isAhead_0 {G : Gl} {o : Nat} {ad : Nat → Nat} {h0 : Hp} {Q : Option Value → Tf → Tg → Te → Prop} (f : Tf) (g : Tg) (e : Te) (r : Int32) (p : Int32) (q : Int32) (s : Int32) (hv : ((¬ r = 0 → ((¬ r = 1 → (∃ P : Nat, p = nI P ∧ PP f g P) ∧ (∃ P : Nat, q = nI P ∧ PP f g P) ∧ (((lastT f g q) ≤ (lastT f g p) → Q (some (.int 0)) f g e) ∧ (¬ (lastT f g q) ≤ (lastT f g p) → Q (some (.int 1)) f g e))) ∧ (r = 1 → vp_in ((23 * p) + 2) 138 ∧ (vp_in (g 22 ((23 * p) + 2).toNatClampNeg) 8) ∧ vp_in ((23 * q) + 2) 138 ∧ (vp_in (g 22 ((23 * q) + 2).toNatClampNeg) 8) ∧ (((airT f g (g 22 ((23 * q) + 2).toNatClampNeg) s) ≤ (airT f g (g 22 ((23 * p) + 2).toNatClampNeg) s) → Q (some (.int 0)) f g e) ∧ (¬ (airT f g (g 22 ((23 * q) + 2).toNatClampNeg) s) ≤ (airT f g (g 22 ((23 * p) + 2).toNatClampNeg) s) → Q (some (.int 1)) f g e))))) ∧ (r = 0 → (vp_in p 5) ∧ (vp_in q 5) ∧ (((wOf g p) ≤ (wOf g q) → Q (some (.int 0)) f g e) ∧ (¬ (wOf g p) ≤ (wOf g q) → Q (some (.int 1)) f g e))))) :
    AWT G o ad h0 MX9_isAhead Q f g e 0 [(0, .ref o), (1, .int r), (2, .int p), (3, .int q), (4, .int s)] [] := by
  refine AWT_iload_n (pc := 0) dX9_isAhead_0 rfl 1 rfl ?_
  refine AWT_if_ne (pc := 1) (tgt := 23) dX9_isAhead_1 (by decide) (fun c1 => ?_) (fun c1 => ?_)
  · have hv := hv.1 c1
    refine AWT_iload_n (pc := 23) dX9_isAhead_23 rfl 1 rfl ?_
    refine AWT_iconst (pc := 24) (v := 1) dX9_isAhead_24 (by decide) ?_
    refine AWT_icmp_ne (pc := 25) (tgt := 71) dX9_isAhead_25 (by decide) (fun c2 => ?_) (fun c2 => ?_)
    · have hv := hv.1 c2
      refine AWT_aload_n (pc := 71) dX9_isAhead_71 rfl 0 rfl ?_
      refine AWT_iload_n (pc := 72) dX9_isAhead_72 rfl 2 rfl ?_
      have p3 := hv.1
      have hv := hv.2
      refine AWT_callV (M' := MX9_lastVisible) (pc := 73) [.int p] [] rfl nmX9_lastVisible ⟨rfl, rfl⟩ (ML.o q1410) q1412 qs68 q82 q1413 dX9_isAhead_73 rfl rfl (Nat.le_of_ble_eq_true rfl) ⟨Nat.le_of_ble_eq_true rfl, Nat.le_of_ble_eq_true rfl⟩ (mcX9_lastVisible f g e p p3) ?_
      rintro _ _ _ _ ⟨rfl, rfl, rfl, rfl⟩
      refine AWT_aload_n (pc := 76) dX9_isAhead_76 rfl 0 rfl ?_
      refine AWT_iload_n (pc := 77) dX9_isAhead_77 rfl 3 rfl ?_
      have p4 := hv.1
      have hv := hv.2
      refine AWT_callV (M' := MX9_lastVisible) (pc := 78) [.int q] [.int (lastT f g p)] rfl nmX9_lastVisible ⟨rfl, rfl⟩ (ML.o q1410) q1412 qs68 q82 q1413 dX9_isAhead_78 rfl rfl (Nat.le_of_ble_eq_true rfl) ⟨Nat.le_of_ble_eq_true rfl, Nat.le_of_ble_eq_true rfl⟩ (mcX9_lastVisible f g e q p4) ?_
      rintro _ _ _ _ ⟨rfl, rfl, rfl, rfl⟩
      refine AWT_icmp_ge (pc := 81) (tgt := 88) dX9_isAhead_81 (by decide) (fun c5 => ?_) (fun c5 => ?_)
      · have hv := hv.1 c5
        refine AWT_iconst (pc := 88) (v := 0) dX9_isAhead_88 (by decide) ?_
        exact AWT_iret (pc := 89) rfl (by decide) dX9_isAhead_89 hv
      · have hv := hv.2 c5
        refine AWT_iconst (pc := 84) (v := 1) dX9_isAhead_84 (by decide) ?_
        refine AWT_goto (pc := 85) (tgt := 89) dX9_isAhead_85 (by decide) ?_
        exact AWT_iret (pc := 89) rfl (by decide) dX9_isAhead_89 hv
    · have hv := hv.2 c2
      refine AWT_aload_n (pc := 28) dX9_isAhead_28 rfl 0 rfl ?_
      refine AWT_aload_n (pc := 29) dX9_isAhead_29 rfl 0 rfl ?_
      refine AWT_getA (pc := 30) 22 (by decide) rfl rfl (FL.o q1065) dX9_isAhead_30 ?_
      refine AWT_bipush (pc := 33) (v := 23) dX9_isAhead_33 (by decide) ?_
      refine AWT_iload_n (pc := 35) dX9_isAhead_35 rfl 2 rfl ?_
      refine AWT_imul (pc := 36) dX9_isAhead_36 ?_
      refine AWT_iconst (pc := 37) (v := 2) dX9_isAhead_37 (by decide) ?_
      refine AWT_iadd (pc := 38) dX9_isAhead_38 ?_
      refine AWT_iald (pc := 39) (k := 22) (n := 138) rfl dX9_isAhead_39 hv.1 ?_
      have hv := hv.2
      refine AWT_iload (pc := 40) dX9_isAhead_40 4 rfl ?_
      have p6 := hv.1
      have hv := hv.2
      refine AWT_callV (M' := MX9_airOf) (pc := 42) [.int (g 22 ((23 * p) + 2).toNatClampNeg), .int s] [] rfl nmX9_airOf ⟨rfl, rfl⟩ (ML.o q1203) q1205 qs41 q82 q1206 dX9_isAhead_42 rfl rfl (Nat.le_of_ble_eq_true rfl) ⟨Nat.le_of_ble_eq_true rfl, Nat.le_of_ble_eq_true rfl⟩ (mcX9_airOf f g e (g 22 ((23 * p) + 2).toNatClampNeg) s p6) ?_
      rintro _ _ _ _ ⟨rfl, rfl, rfl, rfl⟩
      refine AWT_aload_n (pc := 45) dX9_isAhead_45 rfl 0 rfl ?_
      refine AWT_aload_n (pc := 46) dX9_isAhead_46 rfl 0 rfl ?_
      refine AWT_getA (pc := 47) 22 (by decide) rfl rfl (FL.o q1065) dX9_isAhead_47 ?_
      refine AWT_bipush (pc := 50) (v := 23) dX9_isAhead_50 (by decide) ?_
      refine AWT_iload_n (pc := 52) dX9_isAhead_52 rfl 3 rfl ?_
      refine AWT_imul (pc := 53) dX9_isAhead_53 ?_
      refine AWT_iconst (pc := 54) (v := 2) dX9_isAhead_54 (by decide) ?_
      refine AWT_iadd (pc := 55) dX9_isAhead_55 ?_
      refine AWT_iald (pc := 56) (k := 22) (n := 138) rfl dX9_isAhead_56 hv.1 ?_
      have hv := hv.2
      refine AWT_iload (pc := 57) dX9_isAhead_57 4 rfl ?_
      have p7 := hv.1
      have hv := hv.2
      refine AWT_callV (M' := MX9_airOf) (pc := 59) [.int (g 22 ((23 * q) + 2).toNatClampNeg), .int s] [.int (airT f g (g 22 ((23 * p) + 2).toNatClampNeg) s)] rfl nmX9_airOf ⟨rfl, rfl⟩ (ML.o q1203) q1205 qs41 q82 q1206 dX9_isAhead_59 rfl rfl (Nat.le_of_ble_eq_true rfl) ⟨Nat.le_of_ble_eq_true rfl, Nat.le_of_ble_eq_true rfl⟩ (mcX9_airOf f g e (g 22 ((23 * q) + 2).toNatClampNeg) s p7) ?_
      rintro _ _ _ _ ⟨rfl, rfl, rfl, rfl⟩
      refine AWT_icmp_ge (pc := 62) (tgt := 69) dX9_isAhead_62 (by decide) (fun c8 => ?_) (fun c8 => ?_)
      · have hv := hv.1 c8
        refine AWT_iconst (pc := 69) (v := 0) dX9_isAhead_69 (by decide) ?_
        exact AWT_iret (pc := 70) rfl (by decide) dX9_isAhead_70 hv
      · have hv := hv.2 c8
        refine AWT_iconst (pc := 65) (v := 1) dX9_isAhead_65 (by decide) ?_
        refine AWT_goto (pc := 66) (tgt := 70) dX9_isAhead_66 (by decide) ?_
        exact AWT_iret (pc := 70) rfl (by decide) dX9_isAhead_70 hv
  · have hv := hv.2 c1
    refine AWT_aload_n (pc := 4) dX9_isAhead_4 rfl 0 rfl ?_
    refine AWT_iload_n (pc := 5) dX9_isAhead_5 rfl 2 rfl ?_
    have p9 := hv.1
    have hv := hv.2
    refine AWT_callV (M' := MX9_worthOf) (pc := 6) [.int p] [] rfl nmX9_worthOf ⟨rfl, rfl⟩ (ML.o q1350) q1352 qs58 q82 q1353 dX9_isAhead_6 rfl rfl (Nat.le_of_ble_eq_true rfl) ⟨Nat.le_of_ble_eq_true rfl, Nat.le_of_ble_eq_true rfl⟩ (mcX9_worthOf f g e p p9) ?_
    rintro _ _ _ _ ⟨rfl, rfl, rfl, rfl⟩
    refine AWT_aload_n (pc := 9) dX9_isAhead_9 rfl 0 rfl ?_
    refine AWT_iload_n (pc := 10) dX9_isAhead_10 rfl 3 rfl ?_
    have p10 := hv.1
    have hv := hv.2
    refine AWT_callV (M' := MX9_worthOf) (pc := 11) [.int q] [.int (wOf g p)] rfl nmX9_worthOf ⟨rfl, rfl⟩ (ML.o q1350) q1352 qs58 q82 q1353 dX9_isAhead_11 rfl rfl (Nat.le_of_ble_eq_true rfl) ⟨Nat.le_of_ble_eq_true rfl, Nat.le_of_ble_eq_true rfl⟩ (mcX9_worthOf f g e q p10) ?_
    rintro _ _ _ _ ⟨rfl, rfl, rfl, rfl⟩
    refine AWT_icmp_le (pc := 14) (tgt := 21) dX9_isAhead_14 (by decide) (fun c11 => ?_) (fun c11 => ?_)
    · have hv := hv.1 c11
      refine AWT_iconst (pc := 21) (v := 0) dX9_isAhead_21 (by decide) ?_
      exact AWT_iret (pc := 22) rfl (by decide) dX9_isAhead_22 hv
    · have hv := hv.2 c11
      refine AWT_iconst (pc := 17) (v := 1) dX9_isAhead_17 (by decide) ?_
      refine AWT_goto (pc := 18) (tgt := 22) dX9_isAhead_18 (by decide) ?_
      exact AWT_iret (pc := 22) rfl (by decide) dX9_isAhead_22 hv
theorem mcX9_isAhead {G : Gl} {o : Nat} {ad : Nat → Nat} (f : Tf) (g : Tg) (e : Te) (r : Int32) (p : Int32) (q : Int32) (s : Int32) (h1 : ∃ P : Nat, p = nI P ∧ PP f g P) (h2 : ∃ P : Nat, q = nI P ∧ PP f g P) : MCT G o ad MX9_isAhead [.ref o, .int r, .int p, .int q, .int s] f g e (fun v0 f1 g1 e1 => v0 = some (.int (bI (aheadT f g r p q s))) ∧ f = f1 ∧ g = g1 ∧ e = e1) := by
  refine MCT.of ⟨rfl, rfl⟩ (by decide) (Nat.le_of_ble_eq_true rfl) rfl (fun h0 => vcX9_isAhead_0 f g e r p q s ?_)
  have k1 := h1
  have k2 := h2
  obtain ⟨a, ea, ha⟩ := k1
  obtain ⟨b, eb, hb⟩ := k2
  have hin : ∀ (x : Int32) (P : Nat), x = nI P → PP f g P → vp_in x 5 ∧ vp_in (23 * x + 2) 138 ∧ vp_in (g 22 (23 * x + 2).toNatClampNeg) 8 := by
    intro x P e h
    subst e
    have := h.1
    refine ⟨vp_in_nI h.1 (by decide), ?_, ?_⟩
    · rw [lm 23 P, ra _ 2]; exact vp_in_nI (by omega) (by decide)
    · rw [lm 23 P, ra _ 2, nc (23 * P + 2)]; exact h.tg
  obtain ⟨a1, a2, a3⟩ := hin p a ea ha
  obtain ⟨b1, b2, b3⟩ := hin q b eb hb
  refine ⟨fun c => ⟨fun c2 => ⟨h1, h2, fun c3 => ?_, fun c3 => ?_⟩, fun c2 => ⟨a2, a3, b2, b3, fun c3 => ?_, fun c3 => ?_⟩⟩, fun c => ⟨a1, b1, fun c3 => ?_, fun c3 => ?_⟩⟩
  all_goals simp_all [aheadT, bI]
