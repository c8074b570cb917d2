set_option maxRecDepth 100000
theorem gX0_isFrom {K : gK} {M : XS} {S : Option MS}  {a0 : Int64} {a2 : Int64} {a4 : Int64} {o : Int32} (hf : fX0_isFrom a0 a2 a4 = some o) : gMet K yX0_isFrom cX0_isFrom 6 (some Jvm.ClassFile.FieldType.boolean) rX0_isFrom [(.long a0), (.long a2), (.long a4)] M S (some (.int o)) M S := by
  refine gMet.of pn_X0 (Nat.le_of_ble_eq_true rfl) fun X C E => ?_
  unfold fX0_isFrom at hf
  show GG K X 6 0 0 M S 0 [(0, .long a0), (2, .long a2), (4, .long a4)] []
  refine GG.lload_n C dX0_isFrom_0 0 rfl ?_
  refine GG.lload_n C dX0_isFrom_1 1 rfl ?_
  refine GG.lcmp C dX0_isFrom_2 ?_
  refine GG.if_lt C (tgt := 17) dX0_isFrom_3 (by decide) (fun c1 => ?_) (fun c1 => ?_)
  · have hf := if_t hf c1
    refine GG.iconst C dX0_isFrom_17 ic_0 ?_
    have hf := Option.some.inj hf
    subst hf
    exact GG.zret C zb_0 E dX0_isFrom_18
  · have hf := if_f hf c1
    refine GG.lload_n C dX0_isFrom_6 0 rfl ?_
    refine GG.lload C dX0_isFrom_7 2 rfl ?_
    refine GG.lcmp C dX0_isFrom_9 ?_
    refine GG.if_gt C (tgt := 17) dX0_isFrom_10 (by decide) (fun c2 => ?_) (fun c2 => ?_)
    · have hf := if_t hf c2
      refine GG.iconst C dX0_isFrom_17 ic_0 ?_
      have hf := Option.some.inj hf
      subst hf
      exact GG.zret C zb_0 E dX0_isFrom_18
    · have hf := if_f hf c2
      refine GG.iconst C dX0_isFrom_13 ic_1 ?_
      refine GG.goto C (tgt := 18) dX0_isFrom_14 (by decide) ?_
      have hf := Option.some.inj hf
      subst hf
      exact GG.zret C zb_1 E dX0_isFrom_18
theorem gX0_upTo_4 {K : gK} {X : gX} {S : Option MS} {M : XS} (C : gC K X cX0_upTo 4 yX0_upTo (some Jvm.ClassFile.FieldType.int) rX0_upTo)  {o : Int32} (E : gE K X (some (.int o)) M S rX0_upTo.cells rX0_upTo.slots)   :
    ∀ (n : Nat) (a0 : Nat) (a1 : Int32) (a2 : Int32) (a3 : Int32), fX0_upTo_4 M n a0 a1 a2 a3 = some o → GG K X 4 0 0 M S 4 [(0, .ref a0), (1, .int a1), (2, .int a2), (3, .int a3)] [] := by
  intro n
  induction n with
  | zero => intro a0 a1 a2 a3 hf; cases hf
  | succ n ih =>
    intro a0 a1 a2 a3 hf
    rw [fX0_upTo_4] at hf
    refine GG.iload_n C dX0_upTo_4 3 rfl ?_
    refine GG.iload_n C dX0_upTo_5 1 rfl ?_
    refine GG.icmp_ge C (tgt := 26) dX0_upTo_6 (by decide) (fun c1 => ?_) (fun c1 => ?_)
    · have hf := if_t hf c1
      refine GG.iload_n C dX0_upTo_26 2 rfl ?_
      have hf := Option.some.inj hf
      subst hf
      exact GG.iret C E dX0_upTo_27
    · have hf := if_f hf c1
      refine GG.iload_n C dX0_upTo_9 2 rfl ?_
      refine GG.iconst C dX0_upTo_10 ic_1 ?_
      refine GG.aload_n C dX0_upTo_11 0 rfl ?_
      obtain ⟨c2, hf⟩ := gd_some hf
      obtain ⟨r3, hr3, hf⟩ := obd_some hf
      refine GG.gx_X0_31 C rfl c2 hr3 dX0_upTo_12 ?_
      refine GG.iload_n C dX0_upTo_15 3 rfl ?_
      obtain ⟨v4, hv4, hf⟩ := obd_some hf
      refine GG.iald C hv4 dX0_upTo_16 ?_
      refine GG.ishl C dX0_upTo_17 ?_
      refine GG.ior C dX0_upTo_18 ?_
      refine GG.topi fun x5 hx5 => ?_
      have hf := ltb_s hx5 hf
      refine GG.istore_n C (lv' := [(2, .int x5), (0, .ref a0), (1, .int a1), (3, .int a3)]) dX0_upTo_19 (by decide) rfl ?_
      refine GG.iinc C (v := (a3 + (nI 1))) (lv' := [(3, .int (a3 + (nI 1))), (2, .int x5), (0, .ref a0), (1, .int a1)]) dX0_upTo_20 3 rfl (congrArg (a3 + ·) ic_1) (by decide) rfl ?_
      refine GG.goto C (tgt := 4) dX0_upTo_23 (by decide) ?_
      refine GG.sub [2, 3, 1, 0] rfl ?_
      exact ih _ _ _ _ hf
theorem gX0_upTo {K : gK} {S : Option MS}  {M : XS} {a0 : Nat} {a1 : Int32} {o : Int32} (hf : fX0_upTo M a0 a1 = some o) : gMet K yX0_upTo cX0_upTo 4 (some Jvm.ClassFile.FieldType.int) rX0_upTo [(.ref a0), (.int a1)] M S (some (.int o)) M S := by
  refine gMet.of pn_X0 (Nat.le_of_ble_eq_true rfl) fun X C E => ?_
  unfold fX0_upTo at hf
  show GG K X 4 0 0 M S 0 [(0, .ref a0), (1, .int a1)] []
  refine GG.iconst C dX0_upTo_0 ic_0 ?_
  refine GG.istore_n C (lv' := [(2, .int (nI 0)), (0, .ref a0), (1, .int a1)]) dX0_upTo_1 (by decide) rfl ?_
  refine GG.iconst C dX0_upTo_2 ic_0 ?_
  refine GG.istore_n C (lv' := [(3, .int (nI 0)), (2, .int (nI 0)), (0, .ref a0), (1, .int a1)]) dX0_upTo_3 (by decide) rfl ?_
  refine GG.sub [2, 3, 1, 0] rfl ?_
  exact gX0_upTo_4 C E  FU _ _ _ _ hf
theorem gX0_number_34 {K : gK} {X : gX} {S : Option MS} (C : gC K X cX0_number 7 yX0_number (some Jvm.ClassFile.FieldType.long) rX0_number)  {o : (Int64 × XS)} (E : gE K X (some (.long o.1)) o.2 S rX0_number.cells rX0_number.slots) {k22 : XS → Nat → Int32 → Int64 → Int32 → Int32 → Option (Int64 × XS)} (hk22 : ∀ (M : XS) (a0 : Nat) (a1 : Int32) (a2 : Int64) (a4 : Int32) (a5 : Int32), k22 M a0 a1 a2 a4 a5 = some o → GG K X 7 0 0 M S 22 [(0, .ref a0), (1, .int a1), (2, .long a2), (4, .int a4), (5, .int a5)] []) :
    ∀ (n : Nat) (M : XS) (a0 : Nat) (a1 : Int32) (a2 : Int64) (a4 : Int32) (a5 : Int32) (a6 : Int32), fX0_number_34 k22 n M a0 a1 a2 a4 a5 a6 = some o → GG K X 7 0 0 M S 34 [(0, .ref a0), (1, .int a1), (2, .long a2), (4, .int a4), (5, .int a5), (6, .int a6)] [] := by
  intro n
  induction n with
  | zero => intro M a0 a1 a2 a4 a5 a6 hf; cases hf
  | succ n ih =>
    intro M a0 a1 a2 a4 a5 a6 hf
    rw [fX0_number_34] at hf
    refine GG.iload C dX0_number_34 5 rfl ?_
    refine GG.aload_n C dX0_number_36 0 rfl ?_
    obtain ⟨c7, hf⟩ := gd_some hf
    obtain ⟨r8, hr8, hf⟩ := obd_some hf
    refine GG.gx_X0_31 C rfl c7 hr8 dX0_number_37 ?_
    refine GG.iload C dX0_number_40 4 rfl ?_
    obtain ⟨v9, hv9, hf⟩ := obd_some hf
    refine GG.iald C hv9 dX0_number_42 ?_
    refine GG.icmp_ge C (tgt := 88) dX0_number_43 (by decide) (fun c10 => ?_) (fun c10 => ?_)
    · have hf := if_t hf c10
      refine GG.iload C dX0_number_88 3 rfl ?_
      refine GG.iconst C dX0_number_90 ic_1 ?_
      refine GG.aload_n C dX0_number_91 0 rfl ?_
      obtain ⟨r11, hr11, hf⟩ := obd_some hf
      refine GG.gx_X0_31 C rfl c7 hr11 dX0_number_92 ?_
      refine GG.iload C dX0_number_95 4 rfl ?_
      obtain ⟨v12, hv12, hf⟩ := obd_some hf
      refine GG.iald C hv12 dX0_number_97 ?_
      refine GG.ishl C dX0_number_98 ?_
      refine GG.ior C dX0_number_99 ?_
      refine GG.topi fun x13 hx13 => ?_
      have hf := ltb_s hx13 hf
      refine GG.istore C (lv' := [(4, .int x13), (0, .ref a0), (1, .int a1), (2, .long a2), (5, .int a5), (6, .int a6)]) dX0_number_100 (by decide) rfl ?_
      refine GG.iinc C (v := (a5 + (nI 1))) (lv' := [(5, .int (a5 + (nI 1))), (4, .int x13), (0, .ref a0), (1, .int a1), (2, .long a2), (6, .int a6)]) dX0_number_102 4 rfl (congrArg (a5 + ·) ic_1) (by decide) rfl ?_
      refine GG.goto C (tgt := 22) dX0_number_105 (by decide) ?_
      refine GG.sub [2, 3, 4, 1, 0] rfl ?_
      exact hk22 _ _ _ _ _ _ hf
    · have hf := if_f hf c10
      refine GG.iload_n C dX0_number_46 1 rfl ?_
      refine GG.iload C dX0_number_47 5 rfl ?_
      refine GG.ishr C dX0_number_49 ?_
      refine GG.iconst C dX0_number_50 ic_1 ?_
      refine GG.iand C dX0_number_51 ?_
      refine GG.iconst C dX0_number_52 ic_1 ?_
      refine GG.icmp_ne C (tgt := 82) dX0_number_53 (by decide) (fun c14 => ?_) (fun c14 => ?_)
      · have hf := if_f hf c14
        refine GG.iinc C (v := (a6 + (nI 1))) (lv' := [(6, .int (a6 + (nI 1))), (0, .ref a0), (1, .int a1), (2, .long a2), (4, .int a4), (5, .int a5)]) dX0_number_82 5 rfl (congrArg (a6 + ·) ic_1) (by decide) rfl ?_
        refine GG.goto C (tgt := 34) dX0_number_85 (by decide) ?_
        refine GG.sub [1, 2, 3, 4, 5, 0] rfl ?_
        exact ih _ _ _ _ _ _ _ hf
      · have hf := if_t hf c14
        refine GG.aload_n C dX0_number_56 0 rfl ?_
        refine GG.iload C dX0_number_57 3 rfl ?_
        refine GG.iload C dX0_number_59 5 rfl ?_
        obtain ⟨v15, hv15, hf⟩ := obd_some hf
        refine GG.c_X0_305 C rfl (gX0_mayCome hv15) c7 ⟨Nat.le_of_ble_eq_true rfl, Nat.le_of_ble_eq_true rfl⟩ ⟨Nat.le_of_ble_eq_true rfl, Nat.le_of_ble_eq_true rfl⟩ (Nat.le_of_ble_eq_true rfl) dX0_number_61 ?_
        refine GG.if_eq C (tgt := 82) dX0_number_64 (by decide) (fun c16 => ?_) (fun c16 => ?_)
        · have hf := if_t hf c16
          refine GG.iinc C (v := (a6 + (nI 1))) (lv' := [(6, .int (a6 + (nI 1))), (0, .ref a0), (1, .int a1), (2, .long a2), (4, .int a4), (5, .int a5)]) dX0_number_82 5 rfl (congrArg (a6 + ·) ic_1) (by decide) rfl ?_
          refine GG.goto C (tgt := 34) dX0_number_85 (by decide) ?_
          refine GG.sub [1, 2, 3, 4, 5, 0] rfl ?_
          exact ih _ _ _ _ _ _ _ hf
        · have hf := if_f hf c16
          refine GG.lload_n C dX0_number_67 2 rfl ?_
          refine GG.aload_n C dX0_number_68 0 rfl ?_
          obtain ⟨r17, hr17, hf⟩ := obd_some hf
          refine GG.gx_X0_62 C rfl c7 hr17 dX0_number_69 ?_
          refine GG.iload C dX0_number_72 3 rfl ?_
          refine GG.iconst C dX0_number_74 ic_1 ?_
          refine GG.iload C dX0_number_75 5 rfl ?_
          refine GG.ishl C dX0_number_77 ?_
          refine GG.ior C dX0_number_78 ?_
          obtain ⟨v18, hv18, hf⟩ := obd_some hf
          refine GG.lald C hv18 dX0_number_79 ?_
          refine GG.ladd C dX0_number_80 ?_
          refine GG.topl fun x19 hx19 => ?_
          have hf := ltb_s hx19 hf
          refine GG.lstore_n C (lv' := [(2, .long x19), (0, .ref a0), (1, .int a1), (4, .int a4), (5, .int a5), (6, .int a6)]) dX0_number_81 (by decide) rfl ?_
          refine GG.iinc C (v := (a6 + (nI 1))) (lv' := [(6, .int (a6 + (nI 1))), (2, .long x19), (0, .ref a0), (1, .int a1), (4, .int a4), (5, .int a5)]) dX0_number_82 5 rfl (congrArg (a6 + ·) ic_1) (by decide) rfl ?_
          refine GG.goto C (tgt := 34) dX0_number_85 (by decide) ?_
          refine GG.sub [2, 3, 1, 4, 5, 0] rfl ?_
          exact ih _ _ _ _ _ _ _ hf
theorem gX0_number_22 {K : gK} {X : gX} {S : Option MS} (C : gC K X cX0_number 7 yX0_number (some Jvm.ClassFile.FieldType.long) rX0_number)  {o : (Int64 × XS)} (E : gE K X (some (.long o.1)) o.2 S rX0_number.cells rX0_number.slots)   :
    ∀ (n : Nat) (M : XS) (a0 : Nat) (a1 : Int32) (a2 : Int64) (a4 : Int32) (a5 : Int32), fX0_number_22  n M a0 a1 a2 a4 a5 = some o → GG K X 7 0 0 M S 22 [(0, .ref a0), (1, .int a1), (2, .long a2), (4, .int a4), (5, .int a5)] [] := by
  intro n
  induction n with
  | zero => intro M a0 a1 a2 a4 a5 hf; cases hf
  | succ n ih =>
    intro M a0 a1 a2 a4 a5 hf
    rw [fX0_number_22] at hf
    refine GG.iload C dX0_number_22 4 rfl ?_
    refine GG.aload_n C dX0_number_24 0 rfl ?_
    obtain ⟨c4, hf⟩ := gd_some hf
    refine GG.gx_X0_187 C rfl c4 dX0_number_25 ?_
    refine GG.icmp_ge C (tgt := 108) dX0_number_28 (by decide) (fun c5 => ?_) (fun c5 => ?_)
    · have hf := if_t hf c5
      refine GG.aload_n C dX0_number_108 0 rfl ?_
      refine GG.iconst C dX0_number_109 ic_0 ?_
      refine GG.px_X0_97 C rfl c4 dX0_number_110 ?_
      refine GG.topM fun M6 hM6 => ?_
      have hf := ltb_s hM6 hf
      refine GG.lload_n C dX0_number_113 2 rfl ?_
      have hf := Option.some.inj hf
      subst hf
      exact GG.lret C E dX0_number_114
    · have hf := if_f hf c5
      refine GG.iconst C dX0_number_31 ic_0 ?_
      refine GG.istore C (lv' := [(6, .int (nI 0)), (0, .ref a0), (1, .int a1), (2, .long a2), (4, .int a4), (5, .int a5)]) dX0_number_32 (by decide) rfl ?_
      refine GG.sub [1, 2, 3, 4, 5, 0] rfl ?_
      exact gX0_number_34 C E (hk22 := ih) FU _ _ _ _ _ _ _ hf
theorem gX0_number {K : gK} {S : Option MS}  {M : XS} {a0 : Nat} {o : (Int64 × XS)} (hf : fX0_number M a0 = some o) : gMet K yX0_number cX0_number 7 (some Jvm.ClassFile.FieldType.long) rX0_number [(.ref a0)] M S (some (.long o.1)) o.2 S := by
  refine gMet.of pn_X0 (Nat.le_of_ble_eq_true rfl) fun X C E => ?_
  unfold fX0_number at hf
  show GG K X 7 0 0 M S 0 [(0, .ref a0)] []
  refine GG.aload_n C dX0_number_0 0 rfl ?_
  refine GG.aload_n C dX0_number_1 0 rfl ?_
  obtain ⟨c1, hf⟩ := gd_some hf
  refine GG.gx_X0_187 C rfl c1 dX0_number_2 ?_
  obtain ⟨v2, hv2, hf⟩ := obd_some hf
  refine GG.c_X0_323 C rfl (gX0_upTo hv2) c1 ⟨Nat.le_of_ble_eq_true rfl, Nat.le_of_ble_eq_true rfl⟩ ⟨Nat.le_of_ble_eq_true rfl, Nat.le_of_ble_eq_true rfl⟩ (Nat.le_of_ble_eq_true rfl) dX0_number_5 ?_
  refine GG.istore_n C (lv' := [(1, .int v2), (0, .ref a0)]) dX0_number_8 (by decide) rfl ?_
  refine GG.aload_n C dX0_number_9 1 rfl ?_
  refine GG.iload_n C dX0_number_10 0 rfl ?_
  obtain ⟨p3, hp3, hf⟩ := obd_some hf
  refine GG.c_X0_308 C rfl (gX0_counts hp3) c1 ⟨Nat.le_of_ble_eq_true rfl, Nat.le_of_ble_eq_true rfl⟩ ⟨Nat.le_of_ble_eq_true rfl, Nat.le_of_ble_eq_true rfl⟩ (Nat.le_of_ble_eq_true rfl) dX0_number_11 ?_
  refine GG.lconst C dX0_number_14 lc_0 ?_
  refine GG.lstore_n C (lv' := [(2, .long (lN 0)), (1, .int v2), (0, .ref a0)]) dX0_number_15 (by decide) rfl ?_
  refine GG.iconst C dX0_number_16 ic_0 ?_
  refine GG.istore C (lv' := [(4, .int (nI 0)), (2, .long (lN 0)), (1, .int v2), (0, .ref a0)]) dX0_number_17 (by decide) rfl ?_
  refine GG.iconst C dX0_number_19 ic_0 ?_
  refine GG.istore C (lv' := [(5, .int (nI 0)), (4, .int (nI 0)), (2, .long (lN 0)), (1, .int v2), (0, .ref a0)]) dX0_number_20 (by decide) rfl ?_
  refine GG.sub [4, 3, 2, 1, 0] rfl ?_
  exact gX0_number_22 C E  FU _ _ _ _ _ _ hf
theorem gX0_orderAt {K : gK} {S : Option MS}  {M : XS} {a0 : Nat} {a1 : Int32} {o : (Int32 × XS)} (hf : fX0_orderAt M a0 a1 = some o) : gMet K yX0_orderAt cX0_orderAt 2 (some Jvm.ClassFile.FieldType.int) rX0_orderAt [(.ref a0), (.int a1)] M S (some (.int o.1)) o.2 S := by
  refine gMet.of pn_X0 (Nat.le_of_ble_eq_true rfl) fun X C E => ?_
  unfold fX0_orderAt at hf
  show GG K X 2 0 0 M S 0 [(0, .ref a0), (1, .int a1)] []
  refine GG.iload_n C dX0_orderAt_0 1 rfl ?_
  refine GG.if_lt C (tgt := 12) dX0_orderAt_1 (by decide) (fun c1 => ?_) (fun c1 => ?_)
  · have hf := if_t hf c1
    refine GG.aload_n C dX0_orderAt_12 0 rfl ?_
    refine GG.bipush C dX0_orderAt_13 bp_8 ?_
    obtain ⟨c2, hf⟩ := gd_some hf
    obtain ⟨p3, hp3, hf⟩ := obd_some hf
    refine GG.c_X0_124 C rfl (gX0_none hp3) c2 ⟨Nat.le_of_ble_eq_true rfl, Nat.le_of_ble_eq_true rfl⟩ ⟨Nat.le_of_ble_eq_true rfl, Nat.le_of_ble_eq_true rfl⟩ (Nat.le_of_ble_eq_true rfl) dX0_orderAt_15 ?_
    refine GG.goto C (tgt := 31) dX0_orderAt_18 (by decide) ?_
    have hf := Option.some.inj hf
    subst hf
    exact GG.iret C E dX0_orderAt_31
  · have hf := if_f hf c1
    refine GG.iload_n C dX0_orderAt_4 1 rfl ?_
    refine GG.aload_n C dX0_orderAt_5 0 rfl ?_
    obtain ⟨c4, hf⟩ := gd_some hf
    refine GG.gx_X0_187 C rfl c4 dX0_orderAt_6 ?_
    refine GG.icmp_lt C (tgt := 21) dX0_orderAt_9 (by decide) (fun c5 => ?_) (fun c5 => ?_)
    · have hf := if_t hf c5
      refine GG.aload_n C dX0_orderAt_21 0 rfl ?_
      refine GG.aload_n C dX0_orderAt_22 0 rfl ?_
      obtain ⟨r6, hr6, hf⟩ := obd_some hf
      refine GG.gx_X0_31 C rfl c4 hr6 dX0_orderAt_23 ?_
      refine GG.iload_n C dX0_orderAt_26 1 rfl ?_
      obtain ⟨v7, hv7, hf⟩ := obd_some hf
      refine GG.iald C hv7 dX0_orderAt_27 ?_
      obtain ⟨p8, hp8, hf⟩ := obd_some hf
      refine GG.c_X0_197 C rfl (gX0_gives hp8) c4 ⟨Nat.le_of_ble_eq_true rfl, Nat.le_of_ble_eq_true rfl⟩ ⟨Nat.le_of_ble_eq_true rfl, Nat.le_of_ble_eq_true rfl⟩ (Nat.le_of_ble_eq_true rfl) dX0_orderAt_28 ?_
      have hf := Option.some.inj hf
      subst hf
      exact GG.iret C E dX0_orderAt_31
    · have hf := if_f hf c5
      refine GG.aload_n C dX0_orderAt_12 0 rfl ?_
      refine GG.bipush C dX0_orderAt_13 bp_8 ?_
      obtain ⟨p9, hp9, hf⟩ := obd_some hf
      refine GG.c_X0_124 C rfl (gX0_none hp9) c4 ⟨Nat.le_of_ble_eq_true rfl, Nat.le_of_ble_eq_true rfl⟩ ⟨Nat.le_of_ble_eq_true rfl, Nat.le_of_ble_eq_true rfl⟩ (Nat.le_of_ble_eq_true rfl) dX0_orderAt_15 ?_
      refine GG.goto C (tgt := 31) dX0_orderAt_18 (by decide) ?_
      have hf := Option.some.inj hf
      subst hf
      exact GG.iret C E dX0_orderAt_31
theorem gX0_acts {K : gK} {S : Option MS}  {M : XS} {a0 : Nat} {a1 : Int32} {o : (Int32 × XS)} (hf : fX0_acts M a0 a1 = some o) : gMet K yX0_acts cX0_acts 3 (some Jvm.ClassFile.FieldType.int) rX0_acts [(.ref a0), (.int a1)] M S (some (.int o.1)) o.2 S := by
  refine gMet.of pn_X0 (Nat.le_of_ble_eq_true rfl) fun X C E => ?_
  unfold fX0_acts at hf
  show GG K X 3 0 0 M S 0 [(0, .ref a0), (1, .int a1)] []
  refine GG.iload_n C dX0_acts_0 1 rfl ?_
  refine GG.if_lt C (tgt := 12) dX0_acts_1 (by decide) (fun c1 => ?_) (fun c1 => ?_)
  · have hf := if_t hf c1
    refine GG.aload_n C dX0_acts_12 0 rfl ?_
    refine GG.bipush C dX0_acts_13 bp_8 ?_
    obtain ⟨c2, hf⟩ := gd_some hf
    obtain ⟨p3, hp3, hf⟩ := obd_some hf
    refine GG.c_X0_124 C rfl (gX0_none hp3) c2 ⟨Nat.le_of_ble_eq_true rfl, Nat.le_of_ble_eq_true rfl⟩ ⟨Nat.le_of_ble_eq_true rfl, Nat.le_of_ble_eq_true rfl⟩ (Nat.le_of_ble_eq_true rfl) dX0_acts_15 ?_
    have hf := Option.some.inj hf
    subst hf
    exact GG.iret C E dX0_acts_18
  · have hf := if_f hf c1
    refine GG.iload_n C dX0_acts_4 1 rfl ?_
    refine GG.aload_n C dX0_acts_5 0 rfl ?_
    obtain ⟨c4, hf⟩ := gd_some hf
    refine GG.gx_X0_187 C rfl c4 dX0_acts_6 ?_
    refine GG.icmp_lt C (tgt := 19) dX0_acts_9 (by decide) (fun c5 => ?_) (fun c5 => ?_)
    · have hf := if_t hf c5
      refine GG.aload_n C dX0_acts_19 0 rfl ?_
      obtain ⟨r6, hr6, hf⟩ := obd_some hf
      refine GG.gx_X0_37 C rfl c4 hr6 dX0_acts_20 ?_
      obtain ⟨c7, hf⟩ := gd_some hf
      obtain ⟨r8, hr8, hf⟩ := obd_some hf
      refine GG.gx_X0_208 C rfl c7 hr8 dX0_acts_23 ?_
      refine GG.aload_n C dX0_acts_26 0 rfl ?_
      obtain ⟨r9, hr9, hf⟩ := obd_some hf
      refine GG.gx_X0_31 C rfl c4 hr9 dX0_acts_27 ?_
      refine GG.iload_n C dX0_acts_30 1 rfl ?_
      obtain ⟨v10, hv10, hf⟩ := obd_some hf
      refine GG.iald C hv10 dX0_acts_31 ?_
      obtain ⟨r11, hr11, hf⟩ := obd_some hf
      refine GG.aald C 0 hr11 (by decide) dX0_acts_32 ?_
      refine GG.astore_n C (lv' := [(2, .ref r11), (0, .ref a0), (1, .int a1)]) dX0_acts_33 (by decide) rfl ?_
      refine GG.aload_n C dX0_acts_34 0 rfl ?_
      obtain ⟨c12, hf⟩ := gd_some hf
      obtain ⟨v13, hv13, hf⟩ := obd_some hf
      refine GG.d_X0_212 C rfl hv13 ⟨Nat.le_of_ble_eq_true rfl, Nat.le_of_ble_eq_true rfl⟩ (Nat.le_of_ble_eq_true rfl) (Nat.le_of_ble_eq_true rfl) (Nat.le_of_ble_eq_true rfl) dX0_acts_35 ?_
      refine GG.iconst C dX0_acts_38 ic_4 ?_
      refine GG.icmp_ne C (tgt := 48) dX0_acts_39 (by decide) (fun c14 => ?_) (fun c14 => ?_)
      · have hf := if_f hf c14
        refine GG.aload_n C dX0_acts_48 1 rfl ?_
        refine GG.aload_n C dX0_acts_49 1 rfl ?_
        refine GG.aload_n C dX0_acts_50 0 rfl ?_
        obtain ⟨v15, hv15, hf⟩ := obd_some hf
        refine GG.d_X0_212 C rfl hv15 ⟨Nat.le_of_ble_eq_true rfl, Nat.le_of_ble_eq_true rfl⟩ (Nat.le_of_ble_eq_true rfl) (Nat.le_of_ble_eq_true rfl) (Nat.le_of_ble_eq_true rfl) dX0_acts_51 ?_
        refine GG.if_ne C (tgt := 63) dX0_acts_54 (by decide) (fun c16 => ?_) (fun c16 => ?_)
        · have hf := if_f hf c16
          refine GG.iload_n C dX0_acts_63 2 rfl ?_
          obtain ⟨v17, hv17, hf⟩ := obd_some hf
          refine GG.c_X0_323 C rfl (gX0_upTo hv17) c4 ⟨Nat.le_of_ble_eq_true rfl, Nat.le_of_ble_eq_true rfl⟩ ⟨Nat.le_of_ble_eq_true rfl, Nat.le_of_ble_eq_true rfl⟩ (Nat.le_of_ble_eq_true rfl) dX0_acts_64 ?_
          obtain ⟨p18, hp18, hf⟩ := obd_some hf
          refine GG.c_X0_273 C rfl (gX0_lists hp18) c4 ⟨Nat.le_of_ble_eq_true rfl, Nat.le_of_ble_eq_true rfl⟩ ⟨Nat.le_of_ble_eq_true rfl, Nat.le_of_ble_eq_true rfl⟩ (Nat.le_of_ble_eq_true rfl) dX0_acts_67 ?_
          refine GG.aload_n C dX0_acts_70 1 rfl ?_
          refine GG.aload_n C dX0_acts_71 1 rfl ?_
          refine GG.aload_n C dX0_acts_72 0 rfl ?_
          obtain ⟨c19, hf⟩ := gd_some hf
          refine GG.gx_X0_236 C rfl c19 dX0_acts_73 ?_
          obtain ⟨c20, hf⟩ := gd_some hf
          obtain ⟨v21, hv21, hf⟩ := obd_some hf
          refine GG.c_X0_276 C rfl (gX0_placeOf hv21) c20 ⟨Nat.le_of_ble_eq_true rfl, Nat.le_of_ble_eq_true rfl⟩ ⟨Nat.le_of_ble_eq_true rfl, Nat.le_of_ble_eq_true rfl⟩ (Nat.le_of_ble_eq_true rfl) dX0_acts_76 ?_
          obtain ⟨p22, hp22, hf⟩ := obd_some hf
          refine GG.c_X0_197 C rfl (gX0_gives hp22) c20 ⟨Nat.le_of_ble_eq_true rfl, Nat.le_of_ble_eq_true rfl⟩ ⟨Nat.le_of_ble_eq_true rfl, Nat.le_of_ble_eq_true rfl⟩ (Nat.le_of_ble_eq_true rfl) dX0_acts_79 ?_
          have hf := Option.some.inj hf
          subst hf
          exact GG.iret C E dX0_acts_82
        · have hf := if_t hf c16
          refine GG.iload_n C dX0_acts_57 2 rfl ?_
          refine GG.iconst C dX0_acts_58 ic_1 ?_
          refine GG.iadd C dX0_acts_59 ?_
          refine GG.goto C (tgt := 64) dX0_acts_60 (by decide) ?_
          obtain ⟨v23, hv23, hf⟩ := obd_some hf
          refine GG.c_X0_323 C rfl (gX0_upTo hv23) c4 ⟨Nat.le_of_ble_eq_true rfl, Nat.le_of_ble_eq_true rfl⟩ ⟨Nat.le_of_ble_eq_true rfl, Nat.le_of_ble_eq_true rfl⟩ (Nat.le_of_ble_eq_true rfl) dX0_acts_64 ?_
          obtain ⟨p24, hp24, hf⟩ := obd_some hf
          refine GG.c_X0_273 C rfl (gX0_lists hp24) c4 ⟨Nat.le_of_ble_eq_true rfl, Nat.le_of_ble_eq_true rfl⟩ ⟨Nat.le_of_ble_eq_true rfl, Nat.le_of_ble_eq_true rfl⟩ (Nat.le_of_ble_eq_true rfl) dX0_acts_67 ?_
          refine GG.aload_n C dX0_acts_70 1 rfl ?_
          refine GG.aload_n C dX0_acts_71 1 rfl ?_
          refine GG.aload_n C dX0_acts_72 0 rfl ?_
          obtain ⟨c25, hf⟩ := gd_some hf
          refine GG.gx_X0_236 C rfl c25 dX0_acts_73 ?_
          obtain ⟨c26, hf⟩ := gd_some hf
          obtain ⟨v27, hv27, hf⟩ := obd_some hf
          refine GG.c_X0_276 C rfl (gX0_placeOf hv27) c26 ⟨Nat.le_of_ble_eq_true rfl, Nat.le_of_ble_eq_true rfl⟩ ⟨Nat.le_of_ble_eq_true rfl, Nat.le_of_ble_eq_true rfl⟩ (Nat.le_of_ble_eq_true rfl) dX0_acts_76 ?_
          obtain ⟨p28, hp28, hf⟩ := obd_some hf
          refine GG.c_X0_197 C rfl (gX0_gives hp28) c26 ⟨Nat.le_of_ble_eq_true rfl, Nat.le_of_ble_eq_true rfl⟩ ⟨Nat.le_of_ble_eq_true rfl, Nat.le_of_ble_eq_true rfl⟩ (Nat.le_of_ble_eq_true rfl) dX0_acts_79 ?_
          have hf := Option.some.inj hf
          subst hf
          exact GG.iret C E dX0_acts_82
      · have hf := if_t hf c14
        refine GG.aload_n C dX0_acts_42 1 rfl ?_
        refine GG.iconst C dX0_acts_43 ic_m1 ?_
        obtain ⟨p29, hp29, hf⟩ := obd_some hf
        refine GG.c_X0_197 C rfl (gX0_gives hp29) c4 ⟨Nat.le_of_ble_eq_true rfl, Nat.le_of_ble_eq_true rfl⟩ ⟨Nat.le_of_ble_eq_true rfl, Nat.le_of_ble_eq_true rfl⟩ (Nat.le_of_ble_eq_true rfl) dX0_acts_44 ?_
        have hf := Option.some.inj hf
        subst hf
        exact GG.iret C E dX0_acts_47
    · have hf := if_f hf c5
      refine GG.aload_n C dX0_acts_12 0 rfl ?_
      refine GG.bipush C dX0_acts_13 bp_8 ?_
      obtain ⟨p30, hp30, hf⟩ := obd_some hf
      refine GG.c_X0_124 C rfl (gX0_none hp30) c4 ⟨Nat.le_of_ble_eq_true rfl, Nat.le_of_ble_eq_true rfl⟩ ⟨Nat.le_of_ble_eq_true rfl, Nat.le_of_ble_eq_true rfl⟩ (Nat.le_of_ble_eq_true rfl) dX0_acts_15 ?_
      have hf := Option.some.inj hf
      subst hf
      exact GG.iret C E dX0_acts_18
theorem gX0_maySwap {K : gK} {S : Option MS}  {M : XS} {a0 : Nat} {a1 : Int32} {o : Int32} (hf : fX0_maySwap M a0 a1 = some o) : gMet K yX0_maySwap cX0_maySwap 2 (some Jvm.ClassFile.FieldType.boolean) rX0_maySwap [(.ref a0), (.int a1)] M S (some (.int o)) M S := by
  refine gMet.of pn_X0 (Nat.le_of_ble_eq_true rfl) fun X C E => ?_
  unfold fX0_maySwap at hf
  show GG K X 2 0 0 M S 0 [(0, .ref a0), (1, .int a1)] []
  refine GG.aload_n C dX0_maySwap_0 0 rfl ?_
  obtain ⟨c1, hf⟩ := gd_some hf
  obtain ⟨r2, hr2, hf⟩ := obd_some hf
  refine GG.gx_X0_37 C rfl c1 hr2 dX0_maySwap_1 ?_
  obtain ⟨c3, hf⟩ := gd_some hf
  obtain ⟨r4, hr4, hf⟩ := obd_some hf
  refine GG.gx_X0_208 C rfl c3 hr4 dX0_maySwap_4 ?_
  refine GG.aload_n C dX0_maySwap_7 0 rfl ?_
  obtain ⟨r5, hr5, hf⟩ := obd_some hf
  refine GG.gx_X0_31 C rfl c1 hr5 dX0_maySwap_8 ?_
  refine GG.iload_n C dX0_maySwap_11 1 rfl ?_
  refine GG.iconst C dX0_maySwap_12 ic_1 ?_
  refine GG.iadd C dX0_maySwap_13 ?_
  obtain ⟨v6, hv6, hf⟩ := obd_some hf
  refine GG.iald C hv6 dX0_maySwap_14 ?_
  obtain ⟨r7, hr7, hf⟩ := obd_some hf
  refine GG.aald C 0 hr7 (by decide) dX0_maySwap_15 ?_
  obtain ⟨c8, hf⟩ := gd_some hf
  refine GG.gx_X0_245 C rfl c8 dX0_maySwap_16 ?_
  refine GG.aload_n C dX0_maySwap_19 0 rfl ?_
  obtain ⟨r9, hr9, hf⟩ := obd_some hf
  refine GG.gx_X0_31 C rfl c1 hr9 dX0_maySwap_20 ?_
  refine GG.iload_n C dX0_maySwap_23 1 rfl ?_
  obtain ⟨v10, hv10, hf⟩ := obd_some hf
  refine GG.iald C hv10 dX0_maySwap_24 ?_
  refine GG.ishr C dX0_maySwap_25 ?_
  refine GG.iconst C dX0_maySwap_26 ic_1 ?_
  refine GG.iand C dX0_maySwap_27 ?_
  refine GG.if_ne C (tgt := 35) dX0_maySwap_28 (by decide) (fun c11 => ?_) (fun c11 => ?_)
  · have hf := if_f hf c11
    refine GG.iconst C dX0_maySwap_35 ic_0 ?_
    have hf := Option.some.inj hf
    subst hf
    exact GG.zret C zb_0 E dX0_maySwap_36
  · have hf := if_t hf c11
    refine GG.iconst C dX0_maySwap_31 ic_1 ?_
    refine GG.goto C (tgt := 36) dX0_maySwap_32 (by decide) ?_
    have hf := Option.some.inj hf
    subst hf
    exact GG.zret C zb_1 E dX0_maySwap_36
theorem gX0_swaps {K : gK} {S : Option MS}  {M : XS} {a0 : Nat} {a1 : Int32} {o : XS} (hf : fX0_swaps M a0 a1 = some o) : gMet K yX0_swaps cX0_swaps 3 none rX0_swaps [(.ref a0), (.int a1)] M S none o S := by
  refine gMet.of pn_X0 (Nat.le_of_ble_eq_true rfl) fun X C E => ?_
  unfold fX0_swaps at hf
  show GG K X 3 0 0 M S 0 [(0, .ref a0), (1, .int a1)] []
  refine GG.aload_n C dX0_swaps_0 0 rfl ?_
  obtain ⟨c1, hf⟩ := gd_some hf
  obtain ⟨r2, hr2, hf⟩ := obd_some hf
  refine GG.gx_X0_31 C rfl c1 hr2 dX0_swaps_1 ?_
  refine GG.iload_n C dX0_swaps_4 1 rfl ?_
  obtain ⟨v3, hv3, hf⟩ := obd_some hf
  refine GG.iald C hv3 dX0_swaps_5 ?_
  refine GG.istore_n C (lv' := [(2, .int v3), (0, .ref a0), (1, .int a1)]) dX0_swaps_6 (by decide) rfl ?_
  refine GG.aload_n C dX0_swaps_7 1 rfl ?_
  obtain ⟨r4, hr4, hf⟩ := obd_some hf
  refine GG.gx_X0_31 C rfl c1 hr4 dX0_swaps_8 ?_
  refine GG.iload_n C dX0_swaps_11 2 rfl ?_
  refine GG.aload_n C dX0_swaps_12 1 rfl ?_
  obtain ⟨r5, hr5, hf⟩ := obd_some hf
  refine GG.gx_X0_31 C rfl c1 hr5 dX0_swaps_13 ?_
  refine GG.iload_n C dX0_swaps_16 2 rfl ?_
  refine GG.iconst C dX0_swaps_17 ic_1 ?_
  refine GG.iadd C dX0_swaps_18 ?_
  obtain ⟨v6, hv6, hf⟩ := obd_some hf
  refine GG.iald C hv6 dX0_swaps_19 ?_
  obtain ⟨M7, hM7, hf⟩ := obd_some hf
  refine GG.iast C hM7 dX0_swaps_20 ?_
  refine GG.aload_n C dX0_swaps_21 1 rfl ?_
  obtain ⟨c8, hf⟩ := gd_some hf
  obtain ⟨r9, hr9, hf⟩ := obd_some hf
  refine GG.gx_X0_31 C rfl c8 hr9 dX0_swaps_22 ?_
  refine GG.iload_n C dX0_swaps_25 2 rfl ?_
  refine GG.iconst C dX0_swaps_26 ic_1 ?_
  refine GG.iadd C dX0_swaps_27 ?_
  refine GG.iload_n C dX0_swaps_28 0 rfl ?_
  obtain ⟨M10, hM10, hf⟩ := obd_some hf
  refine GG.iast C hM10 dX0_swaps_29 ?_
  have hf := Option.some.inj hf
  subst hf
  exact GG.vret C E dX0_swaps_30
theorem gX0_swap {K : gK} {S : Option MS}  {M : XS} {a0 : Nat} {a1 : Int32} {o : (Int32 × XS)} (hf : fX0_swap M a0 a1 = some o) : gMet K yX0_swap cX0_swap 2 (some Jvm.ClassFile.FieldType.boolean) rX0_swap [(.ref a0), (.int a1)] M S (some (.int o.1)) o.2 S := by
  refine gMet.of pn_X0 (Nat.le_of_ble_eq_true rfl) fun X C E => ?_
  unfold fX0_swap at hf
  show GG K X 2 0 0 M S 0 [(0, .ref a0), (1, .int a1)] []
  refine GG.iload_n C dX0_swap_0 1 rfl ?_
  refine GG.if_lt C (tgt := 14) dX0_swap_1 (by decide) (fun c1 => ?_) (fun c1 => ?_)
  · have hf := if_t hf c1
    refine GG.aload_n C dX0_swap_14 0 rfl ?_
    refine GG.bipush C dX0_swap_15 bp_8 ?_
    obtain ⟨c2, hf⟩ := gd_some hf
    obtain ⟨p3, hp3, hf⟩ := obd_some hf
    refine GG.c_X0_103 C rfl (gX0_is hp3) c2 ⟨Nat.le_of_ble_eq_true rfl, Nat.le_of_ble_eq_true rfl⟩ ⟨Nat.le_of_ble_eq_true rfl, Nat.le_of_ble_eq_true rfl⟩ (Nat.le_of_ble_eq_true rfl) dX0_swap_17 ?_
    obtain ⟨c4, hf⟩ := gd_some hf
    have hf := Option.some.inj hf
    subst hf
    exact GG.zret C c4 E dX0_swap_20
  · have hf := if_f hf c1
    refine GG.iload_n C dX0_swap_4 1 rfl ?_
    refine GG.aload_n C dX0_swap_5 0 rfl ?_
    obtain ⟨c5, hf⟩ := gd_some hf
    refine GG.gx_X0_187 C rfl c5 dX0_swap_6 ?_
    refine GG.iconst C dX0_swap_9 ic_1 ?_
    refine GG.isub C dX0_swap_10 ?_
    refine GG.icmp_lt C (tgt := 21) dX0_swap_11 (by decide) (fun c6 => ?_) (fun c6 => ?_)
    · have hf := if_t hf c6
      refine GG.aload_n C dX0_swap_21 0 rfl ?_
      refine GG.iload_n C dX0_swap_22 1 rfl ?_
      obtain ⟨v7, hv7, hf⟩ := obd_some hf
      refine GG.c_X0_326 C rfl (gX0_maySwap hv7) c5 ⟨Nat.le_of_ble_eq_true rfl, Nat.le_of_ble_eq_true rfl⟩ ⟨Nat.le_of_ble_eq_true rfl, Nat.le_of_ble_eq_true rfl⟩ (Nat.le_of_ble_eq_true rfl) dX0_swap_23 ?_
      refine GG.if_ne C (tgt := 36) dX0_swap_26 (by decide) (fun c8 => ?_) (fun c8 => ?_)
      · have hf := if_f hf c8
        refine GG.aload_n C dX0_swap_36 0 rfl ?_
        refine GG.iload_n C dX0_swap_37 1 rfl ?_
        obtain ⟨p9, hp9, hf⟩ := obd_some hf
        refine GG.c_X0_329 C rfl (gX0_swaps hp9) c5 ⟨Nat.le_of_ble_eq_true rfl, Nat.le_of_ble_eq_true rfl⟩ ⟨Nat.le_of_ble_eq_true rfl, Nat.le_of_ble_eq_true rfl⟩ (Nat.le_of_ble_eq_true rfl) dX0_swap_38 ?_
        refine GG.aload_n C dX0_swap_41 0 rfl ?_
        refine GG.iconst C dX0_swap_42 ic_0 ?_
        obtain ⟨c10, hf⟩ := gd_some hf
        obtain ⟨p11, hp11, hf⟩ := obd_some hf
        refine GG.c_X0_103 C rfl (gX0_is hp11) c10 ⟨Nat.le_of_ble_eq_true rfl, Nat.le_of_ble_eq_true rfl⟩ ⟨Nat.le_of_ble_eq_true rfl, Nat.le_of_ble_eq_true rfl⟩ (Nat.le_of_ble_eq_true rfl) dX0_swap_43 ?_
        obtain ⟨c12, hf⟩ := gd_some hf
        have hf := Option.some.inj hf
        subst hf
        exact GG.zret C c12 E dX0_swap_46
      · have hf := if_t hf c8
        refine GG.aload_n C dX0_swap_29 0 rfl ?_
        refine GG.bipush C dX0_swap_30 bp_9 ?_
        obtain ⟨p13, hp13, hf⟩ := obd_some hf
        refine GG.c_X0_103 C rfl (gX0_is hp13) c5 ⟨Nat.le_of_ble_eq_true rfl, Nat.le_of_ble_eq_true rfl⟩ ⟨Nat.le_of_ble_eq_true rfl, Nat.le_of_ble_eq_true rfl⟩ (Nat.le_of_ble_eq_true rfl) dX0_swap_32 ?_
        obtain ⟨c14, hf⟩ := gd_some hf
        have hf := Option.some.inj hf
        subst hf
        exact GG.zret C c14 E dX0_swap_35
    · have hf := if_f hf c6
      refine GG.aload_n C dX0_swap_14 0 rfl ?_
      refine GG.bipush C dX0_swap_15 bp_8 ?_
      obtain ⟨p15, hp15, hf⟩ := obd_some hf
      refine GG.c_X0_103 C rfl (gX0_is hp15) c5 ⟨Nat.le_of_ble_eq_true rfl, Nat.le_of_ble_eq_true rfl⟩ ⟨Nat.le_of_ble_eq_true rfl, Nat.le_of_ble_eq_true rfl⟩ (Nat.le_of_ble_eq_true rfl) dX0_swap_17 ?_
      obtain ⟨c16, hf⟩ := gd_some hf
      have hf := Option.some.inj hf
      subst hf
      exact GG.zret C c16 E dX0_swap_20
theorem gX0_forward_56 {K : gK} {X : gX} {S : Option MS} (C : gC K X cX0_forward 3 yX0_forward (some Jvm.ClassFile.FieldType.int) rX0_forward)  {o : (Int32 × XS)} (E : gE K X (some (.int o.1)) o.2 S rX0_forward.cells rX0_forward.slots)   :
    ∀ (n : Nat) (M : XS) (a0 : Nat) (a2 : Int32), fX0_forward_56  n M a0 a2 = some o → GG K X 3 0 0 M S 56 [(0, .ref a0), (2, .int a2)] [] := by
  intro n
  induction n with
  | zero => intro M a0 a2 hf; cases hf
  | succ n ih =>
    intro M a0 a2 hf
    rw [fX0_forward_56] at hf
    refine GG.iload_n C dX0_forward_56 1 rfl ?_
    refine GG.if_le C (tgt := 83) dX0_forward_57 (by decide) (fun c14 => ?_) (fun c14 => ?_)
    · have hf := if_t hf c14
      refine GG.aload_n C dX0_forward_83 0 rfl ?_
      refine GG.iload_n C dX0_forward_84 1 rfl ?_
      obtain ⟨c15, hf⟩ := gd_some hf
      obtain ⟨p16, hp16, hf⟩ := obd_some hf
      refine GG.c_X0_197 C rfl (gX0_gives hp16) c15 ⟨Nat.le_of_ble_eq_true rfl, Nat.le_of_ble_eq_true rfl⟩ ⟨Nat.le_of_ble_eq_true rfl, Nat.le_of_ble_eq_true rfl⟩ (Nat.le_of_ble_eq_true rfl) dX0_forward_85 ?_
      have hf := Option.some.inj hf
      subst hf
      exact GG.iret C E dX0_forward_88
    · have hf := if_f hf c14
      refine GG.aload_n C dX0_forward_60 0 rfl ?_
      refine GG.iload_n C dX0_forward_61 1 rfl ?_
      refine GG.iconst C dX0_forward_62 ic_1 ?_
      refine GG.isub C dX0_forward_63 ?_
      obtain ⟨c17, hf⟩ := gd_some hf
      obtain ⟨v18, hv18, hf⟩ := obd_some hf
      refine GG.c_X0_326 C rfl (gX0_maySwap hv18) c17 ⟨Nat.le_of_ble_eq_true rfl, Nat.le_of_ble_eq_true rfl⟩ ⟨Nat.le_of_ble_eq_true rfl, Nat.le_of_ble_eq_true rfl⟩ (Nat.le_of_ble_eq_true rfl) dX0_forward_64 ?_
      refine GG.if_eq C (tgt := 83) dX0_forward_67 (by decide) (fun c19 => ?_) (fun c19 => ?_)
      · have hf := if_t hf c19
        refine GG.aload_n C dX0_forward_83 0 rfl ?_
        refine GG.iload_n C dX0_forward_84 1 rfl ?_
        obtain ⟨p20, hp20, hf⟩ := obd_some hf
        refine GG.c_X0_197 C rfl (gX0_gives hp20) c17 ⟨Nat.le_of_ble_eq_true rfl, Nat.le_of_ble_eq_true rfl⟩ ⟨Nat.le_of_ble_eq_true rfl, Nat.le_of_ble_eq_true rfl⟩ (Nat.le_of_ble_eq_true rfl) dX0_forward_85 ?_
        have hf := Option.some.inj hf
        subst hf
        exact GG.iret C E dX0_forward_88
      · have hf := if_f hf c19
        refine GG.aload_n C dX0_forward_70 0 rfl ?_
        refine GG.iload_n C dX0_forward_71 1 rfl ?_
        refine GG.iconst C dX0_forward_72 ic_1 ?_
        refine GG.isub C dX0_forward_73 ?_
        obtain ⟨p21, hp21, hf⟩ := obd_some hf
        refine GG.c_X0_329 C rfl (gX0_swaps hp21) c17 ⟨Nat.le_of_ble_eq_true rfl, Nat.le_of_ble_eq_true rfl⟩ ⟨Nat.le_of_ble_eq_true rfl, Nat.le_of_ble_eq_true rfl⟩ (Nat.le_of_ble_eq_true rfl) dX0_forward_74 ?_
        refine GG.iinc C (v := (a2 + (-1 : Int32))) (lv' := [(2, .int (a2 + (-1 : Int32))), (0, .ref a0)]) dX0_forward_77 1 rfl (congrArg (a2 + ·) ic_m1) (by decide) rfl ?_
        refine GG.goto C (tgt := 56) dX0_forward_80 (by decide) ?_
        refine GG.sub [1, 0] rfl ?_
        exact ih _ _ _ hf
theorem gX0_forward_17 {K : gK} {X : gX} {S : Option MS} (C : gC K X cX0_forward 3 yX0_forward (some Jvm.ClassFile.FieldType.int) rX0_forward)  {o : (Int32 × XS)} (E : gE K X (some (.int o.1)) o.2 S rX0_forward.cells rX0_forward.slots)   :
    ∀ (n : Nat) (M : XS) (a0 : Nat) (a1 : Int32) (a2 : Int32), fX0_forward_17  n M a0 a1 a2 = some o → GG K X 3 0 0 M S 17 [(0, .ref a0), (1, .int a1), (2, .int a2)] [] := by
  intro n
  induction n with
  | zero => intro M a0 a1 a2 hf; cases hf
  | succ n ih =>
    intro M a0 a1 a2 hf
    rw [fX0_forward_17] at hf
    refine GG.iload_n C dX0_forward_17 2 rfl ?_
    refine GG.aload_n C dX0_forward_18 0 rfl ?_
    obtain ⟨c5, hf⟩ := gd_some hf
    refine GG.gx_X0_187 C rfl c5 dX0_forward_19 ?_
    refine GG.icmp_ge C (tgt := 41) dX0_forward_22 (by decide) (fun c6 => ?_) (fun c6 => ?_)
    · have hf := if_t hf c6
      refine GG.iload_n C dX0_forward_41 2 rfl ?_
      refine GG.aload_n C dX0_forward_42 0 rfl ?_
      refine GG.gx_X0_187 C rfl c5 dX0_forward_43 ?_
      refine GG.icmp_ne C (tgt := 56) dX0_forward_46 (by decide) (fun c7 => ?_) (fun c7 => ?_)
      · have hf := if_f hf c7
        refine GG.sub [0, 2] rfl ?_
        exact gX0_forward_56 C E  FU _ _ _ hf
      · have hf := if_t hf c7
        refine GG.aload_n C dX0_forward_49 0 rfl ?_
        refine GG.bipush C dX0_forward_50 bp_8 ?_
        obtain ⟨p8, hp8, hf⟩ := obd_some hf
        refine GG.c_X0_124 C rfl (gX0_none hp8) c5 ⟨Nat.le_of_ble_eq_true rfl, Nat.le_of_ble_eq_true rfl⟩ ⟨Nat.le_of_ble_eq_true rfl, Nat.le_of_ble_eq_true rfl⟩ (Nat.le_of_ble_eq_true rfl) dX0_forward_52 ?_
        have hf := Option.some.inj hf
        subst hf
        exact GG.iret C E dX0_forward_55
    · have hf := if_f hf c6
      refine GG.aload_n C dX0_forward_25 0 rfl ?_
      obtain ⟨r9, hr9, hf⟩ := obd_some hf
      refine GG.gx_X0_31 C rfl c5 hr9 dX0_forward_26 ?_
      refine GG.iload_n C dX0_forward_29 2 rfl ?_
      obtain ⟨v10, hv10, hf⟩ := obd_some hf
      refine GG.iald C hv10 dX0_forward_30 ?_
      refine GG.iload_n C dX0_forward_31 1 rfl ?_
      refine GG.icmp_eq C (tgt := 41) dX0_forward_32 (by decide) (fun c11 => ?_) (fun c11 => ?_)
      · have hf := if_t hf c11
        refine GG.iload_n C dX0_forward_41 2 rfl ?_
        refine GG.aload_n C dX0_forward_42 0 rfl ?_
        refine GG.gx_X0_187 C rfl c5 dX0_forward_43 ?_
        refine GG.icmp_ne C (tgt := 56) dX0_forward_46 (by decide) (fun c12 => ?_) (fun c12 => ?_)
        · have hf := if_f hf c12
          refine GG.sub [0, 2] rfl ?_
          exact gX0_forward_56 C E  FU _ _ _ hf
        · have hf := if_t hf c12
          refine GG.aload_n C dX0_forward_49 0 rfl ?_
          refine GG.bipush C dX0_forward_50 bp_8 ?_
          obtain ⟨p13, hp13, hf⟩ := obd_some hf
          refine GG.c_X0_124 C rfl (gX0_none hp13) c5 ⟨Nat.le_of_ble_eq_true rfl, Nat.le_of_ble_eq_true rfl⟩ ⟨Nat.le_of_ble_eq_true rfl, Nat.le_of_ble_eq_true rfl⟩ (Nat.le_of_ble_eq_true rfl) dX0_forward_52 ?_
          have hf := Option.some.inj hf
          subst hf
          exact GG.iret C E dX0_forward_55
      · have hf := if_f hf c11
        refine GG.iinc C (v := (a2 + (nI 1))) (lv' := [(2, .int (a2 + (nI 1))), (0, .ref a0), (1, .int a1)]) dX0_forward_35 2 rfl (congrArg (a2 + ·) ic_1) (by decide) rfl ?_
        refine GG.goto C (tgt := 17) dX0_forward_38 (by decide) ?_
        refine GG.sub [1, 2, 0] rfl ?_
        exact ih _ _ _ _ hf
theorem gX0_forward {K : gK} {S : Option MS}  {M : XS} {a0 : Nat} {a1 : Int32} {o : (Int32 × XS)} (hf : fX0_forward M a0 a1 = some o) : gMet K yX0_forward cX0_forward 3 (some Jvm.ClassFile.FieldType.int) rX0_forward [(.ref a0), (.int a1)] M S (some (.int o.1)) o.2 S := by
  refine gMet.of pn_X0 (Nat.le_of_ble_eq_true rfl) fun X C E => ?_
  unfold fX0_forward at hf
  show GG K X 3 0 0 M S 0 [(0, .ref a0), (1, .int a1)] []
  refine GG.aload_n C dX0_forward_0 0 rfl ?_
  refine GG.iload_n C dX0_forward_1 1 rfl ?_
  refine GG.i2l C dX0_forward_2 ?_
  obtain ⟨c1, hf⟩ := gd_some hf
  obtain ⟨v2, hv2, hf⟩ := obd_some hf
  refine GG.c_X0_224 C rfl (gX0_isChange hv2) c1 ⟨Nat.le_of_ble_eq_true rfl, Nat.le_of_ble_eq_true rfl⟩ ⟨Nat.le_of_ble_eq_true rfl, Nat.le_of_ble_eq_true rfl⟩ (Nat.le_of_ble_eq_true rfl) dX0_forward_3 ?_
  refine GG.if_ne C (tgt := 15) dX0_forward_6 (by decide) (fun c3 => ?_) (fun c3 => ?_)
  · have hf := if_f hf c3
    refine GG.iconst C dX0_forward_15 ic_0 ?_
    refine GG.istore_n C (lv' := [(2, .int (nI 0)), (0, .ref a0), (1, .int a1)]) dX0_forward_16 (by decide) rfl ?_
    refine GG.sub [1, 2, 0] rfl ?_
    exact gX0_forward_17 C E  FU _ _ _ _ hf
  · have hf := if_t hf c3
    refine GG.aload_n C dX0_forward_9 0 rfl ?_
    refine GG.iconst C dX0_forward_10 ic_2 ?_
    obtain ⟨p4, hp4, hf⟩ := obd_some hf
    refine GG.c_X0_124 C rfl (gX0_none hp4) c1 ⟨Nat.le_of_ble_eq_true rfl, Nat.le_of_ble_eq_true rfl⟩ ⟨Nat.le_of_ble_eq_true rfl, Nat.le_of_ble_eq_true rfl⟩ (Nat.le_of_ble_eq_true rfl) dX0_forward_11 ?_
    have hf := Option.some.inj hf
    subst hf
    exact GG.iret C E dX0_forward_14
theorem gX0_swaps_2_28 {K : gK} {X : gX} {S : Option MS} (C : gC K X cX0_swaps_2 6 yX0_swaps_2 (some Jvm.ClassFile.FieldType.int) rX0_swaps_2)  {o : (Int32 × XS)} (E : gE K X (some (.int o.1)) o.2 S rX0_swaps_2.cells rX0_swaps_2.slots) {k16 : XS → Nat → Int32 → Int32 → Int32 → Int32 → Option (Int32 × XS)} (hk16 : ∀ (M : XS) (a0 : Nat) (a1 : Int32) (a2 : Int32) (a3 : Int32) (a4 : Int32), k16 M a0 a1 a2 a3 a4 = some o → GG K X 6 0 0 M S 16 [(0, .ref a0), (1, .int a1), (2, .int a2), (3, .int a3), (4, .int a4)] []) :
    ∀ (n : Nat) (M : XS) (a0 : Nat) (a1 : Int32) (a2 : Int32) (a3 : Int32) (a4 : Int32) (a5 : Int32), fX0_swaps_2_28 k16 n M a0 a1 a2 a3 a4 a5 = some o → GG K X 6 0 0 M S 28 [(0, .ref a0), (1, .int a1), (2, .int a2), (3, .int a3), (4, .int a4), (5, .int a5)] [] := by
  intro n
  induction n with
  | zero => intro M a0 a1 a2 a3 a4 a5 hf; cases hf
  | succ n ih =>
    intro M a0 a1 a2 a3 a4 a5 hf
    rw [fX0_swaps_2_28] at hf
    refine GG.iload_n C dX0_swaps_2_28 1 rfl ?_
    refine GG.iload C dX0_swaps_2_29 5 rfl ?_
    refine GG.ishr C dX0_swaps_2_31 ?_
    refine GG.iconst C dX0_swaps_2_32 ic_1 ?_
    refine GG.iand C dX0_swaps_2_33 ?_
    refine GG.if_eq C (tgt := 47) dX0_swaps_2_34 (by decide) (fun c5 => ?_) (fun c5 => ?_)
    · have hf := if_t hf c5
      refine GG.iinc C (v := (a5 + (nI 1))) (lv' := [(5, .int (a5 + (nI 1))), (0, .ref a0), (1, .int a1), (2, .int a2), (3, .int a3), (4, .int a4)]) dX0_swaps_2_47 5 rfl (congrArg (a5 + ·) ic_1) (by decide) rfl ?_
      refine GG.goto C (tgt := 28) dX0_swaps_2_50 (by decide) ?_
      refine GG.sub [1, 2, 3, 4, 5, 0] rfl ?_
      exact ih _ _ _ _ _ _ _ hf
    · have hf := if_f hf c5
      refine GG.aload_n C dX0_swaps_2_37 0 rfl ?_
      refine GG.iload_n C dX0_swaps_2_38 2 rfl ?_
      refine GG.iload C dX0_swaps_2_39 5 rfl ?_
      obtain ⟨c6, hf⟩ := gd_some hf
      obtain ⟨v7, hv7, hf⟩ := obd_some hf
      refine GG.c_X0_305 C rfl (gX0_mayCome hv7) c6 ⟨Nat.le_of_ble_eq_true rfl, Nat.le_of_ble_eq_true rfl⟩ ⟨Nat.le_of_ble_eq_true rfl, Nat.le_of_ble_eq_true rfl⟩ (Nat.le_of_ble_eq_true rfl) dX0_swaps_2_41 ?_
      refine GG.if_ne C (tgt := 53) dX0_swaps_2_44 (by decide) (fun c8 => ?_) (fun c8 => ?_)
      · have hf := if_f hf c8
        refine GG.aload_n C dX0_swaps_2_53 0 rfl ?_
        obtain ⟨r9, hr9, hf⟩ := obd_some hf
        refine GG.gx_X0_69 C rfl c6 hr9 dX0_swaps_2_54 ?_
        refine GG.iload C dX0_swaps_2_57 5 rfl ?_
        refine GG.iload C dX0_swaps_2_59 4 rfl ?_
        obtain ⟨M10, hM10, hf⟩ := obd_some hf
        refine GG.iast C hM10 dX0_swaps_2_61 ?_
        refine GG.iload_n C dX0_swaps_2_62 2 rfl ?_
        refine GG.iconst C dX0_swaps_2_63 ic_1 ?_
        refine GG.iload C dX0_swaps_2_64 5 rfl ?_
        refine GG.ishl C dX0_swaps_2_66 ?_
        refine GG.ior C dX0_swaps_2_67 ?_
        refine GG.topi fun x11 hx11 => ?_
        have hf := ltb_s hx11 hf
        refine GG.istore_n C (lv' := [(2, .int x11), (0, .ref a0), (1, .int a1), (3, .int a3), (4, .int a4), (5, .int a5)]) dX0_swaps_2_68 (by decide) rfl ?_
        refine GG.iinc C (v := (a4 + (nI 1))) (lv' := [(4, .int (a4 + (nI 1))), (2, .int x11), (0, .ref a0), (1, .int a1), (3, .int a3), (5, .int a5)]) dX0_swaps_2_69 4 rfl (congrArg (a4 + ·) ic_1) (by decide) rfl ?_
        refine GG.goto C (tgt := 16) dX0_swaps_2_72 (by decide) ?_
        refine GG.sub [2, 3, 1, 4, 0] rfl ?_
        exact hk16 _ _ _ _ _ _ hf
      · have hf := if_t hf c8
        refine GG.iinc C (v := (a5 + (nI 1))) (lv' := [(5, .int (a5 + (nI 1))), (0, .ref a0), (1, .int a1), (2, .int a2), (3, .int a3), (4, .int a4)]) dX0_swaps_2_47 5 rfl (congrArg (a5 + ·) ic_1) (by decide) rfl ?_
        refine GG.goto C (tgt := 28) dX0_swaps_2_50 (by decide) ?_
        refine GG.sub [1, 2, 3, 4, 5, 0] rfl ?_
        exact ih _ _ _ _ _ _ _ hf
theorem gX0_swaps_2_93 {K : gK} {X : gX} {S : Option MS} (C : gC K X cX0_swaps_2 6 yX0_swaps_2 (some Jvm.ClassFile.FieldType.int) rX0_swaps_2)  {o : (Int32 × XS)} (E : gE K X (some (.int o.1)) o.2 S rX0_swaps_2.cells rX0_swaps_2.slots) {k78 : XS → Nat → Int32 → Int32 → Option (Int32 × XS)} (hk78 : ∀ (M : XS) (a0 : Nat) (a3 : Int32) (a4 : Int32), k78 M a0 a3 a4 = some o → GG K X 6 0 0 M S 78 [(0, .ref a0), (3, .int a3), (4, .int a4)] []) :
    ∀ (n : Nat) (M : XS) (a0 : Nat) (a3 : Int32) (a4 : Int32) (a5 : Int32), fX0_swaps_2_93 k78 n M a0 a3 a4 a5 = some o → GG K X 6 0 0 M S 93 [(0, .ref a0), (3, .int a3), (4, .int a4), (5, .int a5)] [] := by
  intro n
  induction n with
  | zero => intro M a0 a3 a4 a5 hf; cases hf
  | succ n ih =>
    intro M a0 a3 a4 a5 hf
    rw [fX0_swaps_2_93] at hf
    refine GG.iload C dX0_swaps_2_93 3 rfl ?_
    refine GG.aload_n C dX0_swaps_2_95 0 rfl ?_
    obtain ⟨c16, hf⟩ := gd_some hf
    refine GG.gx_X0_187 C rfl c16 dX0_swaps_2_96 ?_
    refine GG.icmp_ge C (tgt := 143) dX0_swaps_2_99 (by decide) (fun c17 => ?_) (fun c17 => ?_)
    · have hf := if_t hf c17
      refine GG.iinc C (v := (a4 + (nI 1))) (lv' := [(4, .int (a4 + (nI 1))), (0, .ref a0), (3, .int a3), (5, .int a5)]) dX0_swaps_2_143 2 rfl (congrArg (a4 + ·) ic_1) (by decide) rfl ?_
      refine GG.goto C (tgt := 78) dX0_swaps_2_146 (by decide) ?_
      refine GG.sub [1, 2, 0] rfl ?_
      exact hk78 _ _ _ _ hf
    · have hf := if_f hf c17
      refine GG.iload_n C dX0_swaps_2_102 1 rfl ?_
      refine GG.aload_n C dX0_swaps_2_103 0 rfl ?_
      obtain ⟨r18, hr18, hf⟩ := obd_some hf
      refine GG.gx_X0_69 C rfl c16 hr18 dX0_swaps_2_104 ?_
      refine GG.aload_n C dX0_swaps_2_107 0 rfl ?_
      obtain ⟨r19, hr19, hf⟩ := obd_some hf
      refine GG.gx_X0_31 C rfl c16 hr19 dX0_swaps_2_108 ?_
      refine GG.iload C dX0_swaps_2_111 2 rfl ?_
      obtain ⟨v20, hv20, hf⟩ := obd_some hf
      refine GG.iald C hv20 dX0_swaps_2_113 ?_
      obtain ⟨v21, hv21, hf⟩ := obd_some hf
      refine GG.iald C hv21 dX0_swaps_2_114 ?_
      refine GG.aload_n C dX0_swaps_2_115 0 rfl ?_
      obtain ⟨r22, hr22, hf⟩ := obd_some hf
      refine GG.gx_X0_69 C rfl c16 hr22 dX0_swaps_2_116 ?_
      refine GG.aload_n C dX0_swaps_2_119 0 rfl ?_
      obtain ⟨r23, hr23, hf⟩ := obd_some hf
      refine GG.gx_X0_31 C rfl c16 hr23 dX0_swaps_2_120 ?_
      refine GG.iload C dX0_swaps_2_123 3 rfl ?_
      obtain ⟨v24, hv24, hf⟩ := obd_some hf
      refine GG.iald C hv24 dX0_swaps_2_125 ?_
      obtain ⟨v25, hv25, hf⟩ := obd_some hf
      refine GG.iald C hv25 dX0_swaps_2_126 ?_
      refine GG.icmp_le C (tgt := 134) dX0_swaps_2_127 (by decide) (fun c26 => ?_) (fun c26 => ?_)
      · have hf := if_t hf c26
        refine GG.iconst C dX0_swaps_2_134 ic_0 ?_
        refine GG.iadd C dX0_swaps_2_135 ?_
        refine GG.topi fun x27 hx27 => ?_
        have hf := ltb_s hx27 hf
        refine GG.istore_n C (lv' := [(3, .int x27), (0, .ref a0), (4, .int a4), (5, .int a5)]) dX0_swaps_2_136 (by decide) rfl ?_
        refine GG.iinc C (v := (a5 + (nI 1))) (lv' := [(5, .int (a5 + (nI 1))), (3, .int x27), (0, .ref a0), (4, .int a4)]) dX0_swaps_2_137 3 rfl (congrArg (a5 + ·) ic_1) (by decide) rfl ?_
        refine GG.goto C (tgt := 93) dX0_swaps_2_140 (by decide) ?_
        refine GG.sub [2, 1, 3, 0] rfl ?_
        exact ih _ _ _ _ _ hf
      · have hf := if_f hf c26
        refine GG.iconst C dX0_swaps_2_130 ic_1 ?_
        refine GG.goto C (tgt := 135) dX0_swaps_2_131 (by decide) ?_
        refine GG.iadd C dX0_swaps_2_135 ?_
        refine GG.topi fun x28 hx28 => ?_
        have hf := ltb_s hx28 hf
        refine GG.istore_n C (lv' := [(3, .int x28), (0, .ref a0), (4, .int a4), (5, .int a5)]) dX0_swaps_2_136 (by decide) rfl ?_
        refine GG.iinc C (v := (a5 + (nI 1))) (lv' := [(5, .int (a5 + (nI 1))), (3, .int x28), (0, .ref a0), (4, .int a4)]) dX0_swaps_2_137 3 rfl (congrArg (a5 + ·) ic_1) (by decide) rfl ?_
        refine GG.goto C (tgt := 93) dX0_swaps_2_140 (by decide) ?_
        refine GG.sub [2, 1, 3, 0] rfl ?_
        exact ih _ _ _ _ _ hf
theorem gX0_swaps_2_78 {K : gK} {X : gX} {S : Option MS} (C : gC K X cX0_swaps_2 6 yX0_swaps_2 (some Jvm.ClassFile.FieldType.int) rX0_swaps_2)  {o : (Int32 × XS)} (E : gE K X (some (.int o.1)) o.2 S rX0_swaps_2.cells rX0_swaps_2.slots)   :
    ∀ (n : Nat) (M : XS) (a0 : Nat) (a3 : Int32) (a4 : Int32), fX0_swaps_2_78  n M a0 a3 a4 = some o → GG K X 6 0 0 M S 78 [(0, .ref a0), (3, .int a3), (4, .int a4)] [] := by
  intro n
  induction n with
  | zero => intro M a0 a3 a4 hf; cases hf
  | succ n ih =>
    intro M a0 a3 a4 hf
    rw [fX0_swaps_2_78] at hf
    refine GG.iload C dX0_swaps_2_78 2 rfl ?_
    refine GG.aload_n C dX0_swaps_2_80 0 rfl ?_
    obtain ⟨c12, hf⟩ := gd_some hf
    refine GG.gx_X0_187 C rfl c12 dX0_swaps_2_81 ?_
    refine GG.icmp_ge C (tgt := 149) dX0_swaps_2_84 (by decide) (fun c13 => ?_) (fun c13 => ?_)
    · have hf := if_t hf c13
      refine GG.aload_n C dX0_swaps_2_149 0 rfl ?_
      refine GG.iload_n C dX0_swaps_2_150 1 rfl ?_
      obtain ⟨p14, hp14, hf⟩ := obd_some hf
      refine GG.c_X0_197 C rfl (gX0_gives hp14) c12 ⟨Nat.le_of_ble_eq_true rfl, Nat.le_of_ble_eq_true rfl⟩ ⟨Nat.le_of_ble_eq_true rfl, Nat.le_of_ble_eq_true rfl⟩ (Nat.le_of_ble_eq_true rfl) dX0_swaps_2_151 ?_
      have hf := Option.some.inj hf
      subst hf
      exact GG.iret C E dX0_swaps_2_154
    · have hf := if_f hf c13
      refine GG.iload C dX0_swaps_2_87 2 rfl ?_
      refine GG.iconst C dX0_swaps_2_89 ic_1 ?_
      refine GG.iadd C dX0_swaps_2_90 ?_
      refine GG.topi fun x15 hx15 => ?_
      have hf := ltb_s hx15 hf
      refine GG.istore C (lv' := [(5, .int x15), (0, .ref a0), (3, .int a3), (4, .int a4)]) dX0_swaps_2_91 (by decide) rfl ?_
      refine GG.sub [1, 2, 3, 0] rfl ?_
      exact gX0_swaps_2_93 C E (hk78 := ih) FU _ _ _ _ _ hf
theorem gX0_swaps_2_16 {K : gK} {X : gX} {S : Option MS} (C : gC K X cX0_swaps_2 6 yX0_swaps_2 (some Jvm.ClassFile.FieldType.int) rX0_swaps_2)  {o : (Int32 × XS)} (E : gE K X (some (.int o.1)) o.2 S rX0_swaps_2.cells rX0_swaps_2.slots)   :
    ∀ (n : Nat) (M : XS) (a0 : Nat) (a1 : Int32) (a2 : Int32) (a3 : Int32) (a4 : Int32), fX0_swaps_2_16  n M a0 a1 a2 a3 a4 = some o → GG K X 6 0 0 M S 16 [(0, .ref a0), (1, .int a1), (2, .int a2), (3, .int a3), (4, .int a4)] [] := by
  intro n
  induction n with
  | zero => intro M a0 a1 a2 a3 a4 hf; cases hf
  | succ n ih =>
    intro M a0 a1 a2 a3 a4 hf
    rw [fX0_swaps_2_16] at hf
    refine GG.iload C dX0_swaps_2_16 4 rfl ?_
    refine GG.aload_n C dX0_swaps_2_18 0 rfl ?_
    obtain ⟨c3, hf⟩ := gd_some hf
    refine GG.gx_X0_187 C rfl c3 dX0_swaps_2_19 ?_
    refine GG.icmp_ge C (tgt := 75) dX0_swaps_2_22 (by decide) (fun c4 => ?_) (fun c4 => ?_)
    · have hf := if_t hf c4
      refine GG.iconst C dX0_swaps_2_75 ic_0 ?_
      refine GG.istore C (lv' := [(4, .int (nI 0)), (0, .ref a0), (1, .int a1), (2, .int a2), (3, .int a3)]) dX0_swaps_2_76 (by decide) rfl ?_
      refine GG.sub [1, 4, 0] rfl ?_
      exact gX0_swaps_2_78 C E  FU _ _ _ _ hf
    · have hf := if_f hf c4
      refine GG.iconst C dX0_swaps_2_25 ic_0 ?_
      refine GG.istore C (lv' := [(5, .int (nI 0)), (0, .ref a0), (1, .int a1), (2, .int a2), (3, .int a3), (4, .int a4)]) dX0_swaps_2_26 (by decide) rfl ?_
      refine GG.sub [1, 2, 3, 4, 5, 0] rfl ?_
      exact gX0_swaps_2_28 C E (hk16 := ih) FU _ _ _ _ _ _ _ hf
theorem gX0_swaps_2 {K : gK} {S : Option MS}  {M : XS} {a0 : Nat} {o : (Int32 × XS)} (hf : fX0_swaps_2 M a0 = some o) : gMet K yX0_swaps_2 cX0_swaps_2 6 (some Jvm.ClassFile.FieldType.int) rX0_swaps_2 [(.ref a0)] M S (some (.int o.1)) o.2 S := by
  refine gMet.of pn_X0 (Nat.le_of_ble_eq_true rfl) fun X C E => ?_
  unfold fX0_swaps_2 at hf
  show GG K X 6 0 0 M S 0 [(0, .ref a0)] []
  refine GG.aload_n C dX0_swaps_2_0 0 rfl ?_
  refine GG.aload_n C dX0_swaps_2_1 0 rfl ?_
  obtain ⟨c1, hf⟩ := gd_some hf
  refine GG.gx_X0_187 C rfl c1 dX0_swaps_2_2 ?_
  obtain ⟨v2, hv2, hf⟩ := obd_some hf
  refine GG.c_X0_323 C rfl (gX0_upTo hv2) c1 ⟨Nat.le_of_ble_eq_true rfl, Nat.le_of_ble_eq_true rfl⟩ ⟨Nat.le_of_ble_eq_true rfl, Nat.le_of_ble_eq_true rfl⟩ (Nat.le_of_ble_eq_true rfl) dX0_swaps_2_5 ?_
  refine GG.istore_n C (lv' := [(1, .int v2), (0, .ref a0)]) dX0_swaps_2_8 (by decide) rfl ?_
  refine GG.iconst C dX0_swaps_2_9 ic_0 ?_
  refine GG.istore_n C (lv' := [(2, .int (nI 0)), (1, .int v2), (0, .ref a0)]) dX0_swaps_2_10 (by decide) rfl ?_
  refine GG.iconst C dX0_swaps_2_11 ic_0 ?_
  refine GG.istore_n C (lv' := [(3, .int (nI 0)), (2, .int (nI 0)), (1, .int v2), (0, .ref a0)]) dX0_swaps_2_12 (by decide) rfl ?_
  refine GG.iconst C dX0_swaps_2_13 ic_0 ?_
  refine GG.istore C (lv' := [(4, .int (nI 0)), (3, .int (nI 0)), (2, .int (nI 0)), (1, .int v2), (0, .ref a0)]) dX0_swaps_2_14 (by decide) rfl ?_
  refine GG.sub [4, 3, 2, 1, 0] rfl ?_
  exact gX0_swaps_2_16 C E  FU _ _ _ _ _ _ hf
theorem gX0_isIsland {K : gK} {S : Option MS}  {M : XS} {a0 : Nat} {a1 : Int32} {o : Int32} (hf : fX0_isIsland M a0 a1 = some o) : gMet K yX0_isIsland cX0_isIsland 2 (some Jvm.ClassFile.FieldType.boolean) rX0_isIsland [(.ref a0), (.int a1)] M S (some (.int o)) M S := by
  refine gMet.of pn_X0 (Nat.le_of_ble_eq_true rfl) fun X C E => ?_
  unfold fX0_isIsland at hf
  show GG K X 2 0 0 M S 0 [(0, .ref a0), (1, .int a1)] []
  refine GG.iload_n C dX0_isIsland_0 1 rfl ?_
  refine GG.if_lt C (tgt := 19) dX0_isIsland_1 (by decide) (fun c1 => ?_) (fun c1 => ?_)
  · have hf := if_t hf c1
    refine GG.iconst C dX0_isIsland_19 ic_0 ?_
    have hf := Option.some.inj hf
    subst hf
    exact GG.zret C zb_0 E dX0_isIsland_20
  · have hf := if_f hf c1
    refine GG.iload_n C dX0_isIsland_4 1 rfl ?_
    refine GG.aload_n C dX0_isIsland_5 0 rfl ?_
    obtain ⟨c2, hf⟩ := gd_some hf
    obtain ⟨r3, hr3, hf⟩ := obd_some hf
    refine GG.gx_X0_37 C rfl c2 hr3 dX0_isIsland_6 ?_
    obtain ⟨c4, hf⟩ := gd_some hf
    refine GG.gx_X0_152 C rfl c4 dX0_isIsland_9 ?_
    refine GG.icmp_ge C (tgt := 19) dX0_isIsland_12 (by decide) (fun c5 => ?_) (fun c5 => ?_)
    · have hf := if_t hf c5
      refine GG.iconst C dX0_isIsland_19 ic_0 ?_
      have hf := Option.some.inj hf
      subst hf
      exact GG.zret C zb_0 E dX0_isIsland_20
    · have hf := if_f hf c5
      refine GG.iconst C dX0_isIsland_15 ic_1 ?_
      refine GG.goto C (tgt := 20) dX0_isIsland_16 (by decide) ?_
      have hf := Option.some.inj hf
      subst hf
      exact GG.zret C zb_1 E dX0_isIsland_20
theorem gX0_has {K : gK} {S : Option MS}  {M : XS} {a0 : Nat} {a1 : Int32} {o : (Int32 × XS)} (hf : fX0_has M a0 a1 = some o) : gMet K yX0_has cX0_has 2 (some Jvm.ClassFile.FieldType.int) rX0_has [(.ref a0), (.int a1)] M S (some (.int o.1)) o.2 S := by
  refine gMet.of pn_X0 (Nat.le_of_ble_eq_true rfl) fun X C E => ?_
  unfold fX0_has at hf
  show GG K X 2 0 0 M S 0 [(0, .ref a0), (1, .int a1)] []
  refine GG.aload_n C dX0_has_0 0 rfl ?_
  refine GG.iload_n C dX0_has_1 1 rfl ?_
  obtain ⟨c1, hf⟩ := gd_some hf
  obtain ⟨v2, hv2, hf⟩ := obd_some hf
  refine GG.c_X0_332 C rfl (gX0_isIsland hv2) c1 ⟨Nat.le_of_ble_eq_true rfl, Nat.le_of_ble_eq_true rfl⟩ ⟨Nat.le_of_ble_eq_true rfl, Nat.le_of_ble_eq_true rfl⟩ (Nat.le_of_ble_eq_true rfl) dX0_has_2 ?_
  refine GG.if_eq C (tgt := 21) dX0_has_5 (by decide) (fun c3 => ?_) (fun c3 => ?_)
  · have hf := if_t hf c3
    refine GG.aload_n C dX0_has_21 0 rfl ?_
    refine GG.iconst C dX0_has_22 ic_2 ?_
    obtain ⟨p4, hp4, hf⟩ := obd_some hf
    refine GG.c_X0_124 C rfl (gX0_none hp4) c1 ⟨Nat.le_of_ble_eq_true rfl, Nat.le_of_ble_eq_true rfl⟩ ⟨Nat.le_of_ble_eq_true rfl, Nat.le_of_ble_eq_true rfl⟩ (Nat.le_of_ble_eq_true rfl) dX0_has_23 ?_
    have hf := Option.some.inj hf
    subst hf
    exact GG.iret C E dX0_has_26
  · have hf := if_f hf c3
    refine GG.aload_n C dX0_has_8 0 rfl ?_
    refine GG.aload_n C dX0_has_9 0 rfl ?_
    obtain ⟨r5, hr5, hf⟩ := obd_some hf
    refine GG.gx_X0_27 C rfl c1 hr5 dX0_has_10 ?_
    refine GG.iload_n C dX0_has_13 1 rfl ?_
    obtain ⟨v6, hv6, hf⟩ := obd_some hf
    refine GG.iald C hv6 dX0_has_14 ?_
    obtain ⟨p7, hp7, hf⟩ := obd_some hf
    refine GG.c_X0_197 C rfl (gX0_gives hp7) c1 ⟨Nat.le_of_ble_eq_true rfl, Nat.le_of_ble_eq_true rfl⟩ ⟨Nat.le_of_ble_eq_true rfl, Nat.le_of_ble_eq_true rfl⟩ (Nat.le_of_ble_eq_true rfl) dX0_has_15 ?_
    refine GG.goto C (tgt := 26) dX0_has_18 (by decide) ?_
    have hf := Option.some.inj hf
    subst hf
    exact GG.iret C E dX0_has_26
theorem gX0_give {K : gK} {S : Option MS}  {M : XS} {a0 : Nat} {a1 : Int32} {a2 : Int32} {o : (Int32 × XS)} (hf : fX0_give M a0 a1 a2 = some o) : gMet K yX0_give cX0_give 3 (some Jvm.ClassFile.FieldType.boolean) rX0_give [(.ref a0), (.int a1), (.int a2)] M S (some (.int o.1)) o.2 S := by
  refine gMet.of pn_X0 (Nat.le_of_ble_eq_true rfl) fun X C E => ?_
  unfold fX0_give at hf
  show GG K X 3 0 0 M S 0 [(0, .ref a0), (1, .int a1), (2, .int a2)] []
  refine GG.aload_n C dX0_give_0 0 rfl ?_
  refine GG.iload_n C dX0_give_1 1 rfl ?_
  obtain ⟨c1, hf⟩ := gd_some hf
  obtain ⟨v2, hv2, hf⟩ := obd_some hf
  refine GG.c_X0_332 C rfl (gX0_isIsland hv2) c1 ⟨Nat.le_of_ble_eq_true rfl, Nat.le_of_ble_eq_true rfl⟩ ⟨Nat.le_of_ble_eq_true rfl, Nat.le_of_ble_eq_true rfl⟩ (Nat.le_of_ble_eq_true rfl) dX0_give_2 ?_
  refine GG.if_eq C (tgt := 16) dX0_give_5 (by decide) (fun c3 => ?_) (fun c3 => ?_)
  · have hf := if_t hf c3
    refine GG.aload_n C dX0_give_16 0 rfl ?_
    refine GG.iconst C dX0_give_17 ic_2 ?_
    obtain ⟨p4, hp4, hf⟩ := obd_some hf
    refine GG.c_X0_103 C rfl (gX0_is hp4) c1 ⟨Nat.le_of_ble_eq_true rfl, Nat.le_of_ble_eq_true rfl⟩ ⟨Nat.le_of_ble_eq_true rfl, Nat.le_of_ble_eq_true rfl⟩ (Nat.le_of_ble_eq_true rfl) dX0_give_18 ?_
    obtain ⟨c5, hf⟩ := gd_some hf
    have hf := Option.some.inj hf
    subst hf
    exact GG.zret C c5 E dX0_give_21
  · have hf := if_f hf c3
    refine GG.aload_n C dX0_give_8 0 rfl ?_
    refine GG.iload_n C dX0_give_9 2 rfl ?_
    obtain ⟨v6, hv6, hf⟩ := obd_some hf
    refine GG.c_X0_251 C rfl (gX0_isSet hv6) c1 ⟨Nat.le_of_ble_eq_true rfl, Nat.le_of_ble_eq_true rfl⟩ ⟨Nat.le_of_ble_eq_true rfl, Nat.le_of_ble_eq_true rfl⟩ (Nat.le_of_ble_eq_true rfl) dX0_give_10 ?_
    refine GG.if_ne C (tgt := 22) dX0_give_13 (by decide) (fun c7 => ?_) (fun c7 => ?_)
    · have hf := if_f hf c7
      refine GG.aload_n C dX0_give_22 0 rfl ?_
      obtain ⟨r8, hr8, hf⟩ := obd_some hf
      refine GG.gx_X0_37 C rfl c1 hr8 dX0_give_23 ?_
      refine GG.iload_n C dX0_give_26 2 rfl ?_
      obtain ⟨c9, hf⟩ := gd_some hf
      obtain ⟨v10, hv10, hf⟩ := obd_some hf
      refine GG.c_X0_254 C rfl (gX4_holds hv10) c9 ⟨Nat.le_of_ble_eq_true rfl, Nat.le_of_ble_eq_true rfl⟩ ⟨Nat.le_of_ble_eq_true rfl, Nat.le_of_ble_eq_true rfl⟩ (Nat.le_of_ble_eq_true rfl) dX0_give_27 ?_
      refine GG.if_ne C (tgt := 40) dX0_give_30 (by decide) (fun c11 => ?_) (fun c11 => ?_)
      · have hf := if_f hf c11
        refine GG.aload_n C dX0_give_40 0 rfl ?_
        obtain ⟨r12, hr12, hf⟩ := obd_some hf
        refine GG.gx_X0_27 C rfl c1 hr12 dX0_give_41 ?_
        refine GG.iload_n C dX0_give_44 1 rfl ?_
        refine GG.iload_n C dX0_give_45 2 rfl ?_
        obtain ⟨M13, hM13, hf⟩ := obd_some hf
        refine GG.iast C hM13 dX0_give_46 ?_
        refine GG.aload_n C dX0_give_47 0 rfl ?_
        refine GG.iconst C dX0_give_48 ic_0 ?_
        obtain ⟨c14, hf⟩ := gd_some hf
        obtain ⟨p15, hp15, hf⟩ := obd_some hf
        refine GG.c_X0_103 C rfl (gX0_is hp15) c14 ⟨Nat.le_of_ble_eq_true rfl, Nat.le_of_ble_eq_true rfl⟩ ⟨Nat.le_of_ble_eq_true rfl, Nat.le_of_ble_eq_true rfl⟩ (Nat.le_of_ble_eq_true rfl) dX0_give_49 ?_
        obtain ⟨c16, hf⟩ := gd_some hf
        have hf := Option.some.inj hf
        subst hf
        exact GG.zret C c16 E dX0_give_52
      · have hf := if_t hf c11
        refine GG.aload_n C dX0_give_33 0 rfl ?_
        refine GG.bipush C dX0_give_34 bp_9 ?_
        obtain ⟨p17, hp17, hf⟩ := obd_some hf
        refine GG.c_X0_103 C rfl (gX0_is hp17) c1 ⟨Nat.le_of_ble_eq_true rfl, Nat.le_of_ble_eq_true rfl⟩ ⟨Nat.le_of_ble_eq_true rfl, Nat.le_of_ble_eq_true rfl⟩ (Nat.le_of_ble_eq_true rfl) dX0_give_36 ?_
        obtain ⟨c18, hf⟩ := gd_some hf
        have hf := Option.some.inj hf
        subst hf
        exact GG.zret C c18 E dX0_give_39
    · have hf := if_t hf c7
      refine GG.aload_n C dX0_give_16 0 rfl ?_
      refine GG.iconst C dX0_give_17 ic_2 ?_
      obtain ⟨p19, hp19, hf⟩ := obd_some hf
      refine GG.c_X0_103 C rfl (gX0_is hp19) c1 ⟨Nat.le_of_ble_eq_true rfl, Nat.le_of_ble_eq_true rfl⟩ ⟨Nat.le_of_ble_eq_true rfl, Nat.le_of_ble_eq_true rfl⟩ (Nat.le_of_ble_eq_true rfl) dX0_give_18 ?_
      obtain ⟨c20, hf⟩ := gd_some hf
      have hf := Option.some.inj hf
      subst hf
      exact GG.zret C c20 E dX0_give_21
theorem gX0_sets {K : gK} {S : Option MS}  {M : XS} {a0 : Nat} {a1 : Int32} {a2 : Int32} {a3 : Int32} {o : XS} (hf : fX0_sets M a0 a1 a2 a3 = some o) : gMet K yX0_sets cX0_sets 4 none rX0_sets [(.ref a0), (.int a1), (.int a2), (.int a3)] M S none o S := by
  refine gMet.of pn_X0 (Nat.le_of_ble_eq_true rfl) fun X C E => ?_
  unfold fX0_sets at hf
  show GG K X 4 0 0 M S 0 [(0, .ref a0), (1, .int a1), (2, .int a2), (3, .int a3)] []
  refine GG.aload_n C dX0_sets_0 0 rfl ?_
  obtain ⟨c1, hf⟩ := gd_some hf
  obtain ⟨r2, hr2, hf⟩ := obd_some hf
  refine GG.gx_X0_72 C rfl c1 hr2 dX0_sets_1 ?_
  refine GG.aload_n C dX0_sets_4 0 rfl ?_
  refine GG.gx_X0_335 C rfl c1 dX0_sets_5 ?_
  refine GG.iload_n C dX0_sets_8 1 rfl ?_
  obtain ⟨M3, hM3, hf⟩ := obd_some hf
  refine GG.iast C hM3 dX0_sets_9 ?_
  refine GG.aload_n C dX0_sets_10 0 rfl ?_
  obtain ⟨c4, hf⟩ := gd_some hf
  obtain ⟨r5, hr5, hf⟩ := obd_some hf
  refine GG.gx_X0_75 C rfl c4 hr5 dX0_sets_11 ?_
  refine GG.aload_n C dX0_sets_14 0 rfl ?_
  refine GG.gx_X0_335 C rfl c4 dX0_sets_15 ?_
  refine GG.iload_n C dX0_sets_18 2 rfl ?_
  obtain ⟨M6, hM6, hf⟩ := obd_some hf
  refine GG.iast C hM6 dX0_sets_19 ?_
  refine GG.aload_n C dX0_sets_20 0 rfl ?_
  obtain ⟨c7, hf⟩ := gd_some hf
  obtain ⟨r8, hr8, hf⟩ := obd_some hf
  refine GG.gx_X0_78 C rfl c7 hr8 dX0_sets_21 ?_
  refine GG.aload_n C dX0_sets_24 0 rfl ?_
  refine GG.gx_X0_335 C rfl c7 dX0_sets_25 ?_
  refine GG.iload_n C dX0_sets_28 3 rfl ?_
  obtain ⟨M9, hM9, hf⟩ := obd_some hf
  refine GG.iast C hM9 dX0_sets_29 ?_
  refine GG.aload_n C dX0_sets_30 0 rfl ?_
  obtain ⟨c10, hf⟩ := gd_some hf
  obtain ⟨r11, hr11, hf⟩ := obd_some hf
  refine GG.gx_X0_81 C rfl c10 hr11 dX0_sets_31 ?_
  refine GG.aload_n C dX0_sets_34 0 rfl ?_
  refine GG.gx_X0_335 C rfl c10 dX0_sets_35 ?_
  refine GG.aload_n C dX0_sets_38 0 rfl ?_
  refine GG.gx_X0_338 C rfl c10 dX0_sets_39 ?_
  obtain ⟨M12, hM12, hf⟩ := obd_some hf
  refine GG.iast C hM12 dX0_sets_42 ?_
  refine GG.aload_n C dX0_sets_43 0 rfl ?_
  refine GG.dup C dX0_sets_44 rfl ?_
  obtain ⟨c13, hf⟩ := gd_some hf
  refine GG.gx_X0_335 C rfl c13 dX0_sets_45 ?_
  refine GG.iconst C dX0_sets_48 ic_1 ?_
  refine GG.iadd C dX0_sets_49 ?_
  refine GG.px_X0_335 C rfl c13 dX0_sets_50 ?_
  refine GG.topM fun M14 hM14 => ?_
  have hf := ltb_s hM14 hf
  have hf := Option.some.inj hf
  subst hf
  exact GG.vret C E dX0_sets_53
theorem gX0_ships_145 {K : gK} {X : gX} {S : Option MS} (C : gC K X cX0_ships 4 yX0_ships (some Jvm.ClassFile.FieldType.boolean) rX0_ships)  {o : (Int32 × XS)} (E : gE K X (some (.int o.1)) o.2 S rX0_ships.cells rX0_ships.slots)   :
    ∀ (M : XS) (a0 : Nat) (a1 : Nat) (a3 : Int32), fX0_ships_145  M a0 a1 a3 = some o → GG K X 4 0 0 M S 145 [(0, .ref a0), (1, .ref a1), (3, .int a3)] [] := by
  intro M a0 a1 a3 hf
  unfold fX0_ships_145 at hf
  refine GG.aload_n C dX0_ships_145 1 rfl ?_
  obtain ⟨c27, hf⟩ := gd_some hf
  refine GG.gx_X0_361 C rfl c27 dX0_ships_146 ?_
  refine GG.if_eq C (tgt := 172) dX0_ships_149 (by decide) (fun c28 => ?_) (fun c28 => ?_)
  · have hf := if_t hf c28
    refine GG.iconst C dX0_ships_172 ic_1 ?_
    have hf := Option.some.inj hf
    subst hf
    exact GG.zret C zb_1 E dX0_ships_173
  · have hf := if_f hf c28
    refine GG.aload_n C dX0_ships_152 0 rfl ?_
    refine GG.iload_n C dX0_ships_153 2 rfl ?_
    refine GG.aload_n C dX0_ships_154 1 rfl ?_
    refine GG.gx_X0_355 C rfl c27 dX0_ships_155 ?_
    refine GG.aload_n C dX0_ships_158 0 rfl ?_
    obtain ⟨c29, hf⟩ := gd_some hf
    refine GG.gx_X0_341 C rfl c29 dX0_ships_159 ?_
    refine GG.aload_n C dX0_ships_162 1 rfl ?_
    refine GG.gx_X0_358 C rfl c27 dX0_ships_163 ?_
    refine GG.iadd C dX0_ships_166 ?_
    refine GG.iconst C dX0_ships_167 ic_1 ?_
    refine GG.iadd C dX0_ships_168 ?_
    obtain ⟨p30, hp30, hf⟩ := obd_some hf
    refine GG.c_X0_365 C rfl (gX0_sets hp30) c29 ⟨Nat.le_of_ble_eq_true rfl, Nat.le_of_ble_eq_true rfl⟩ ⟨Nat.le_of_ble_eq_true rfl, Nat.le_of_ble_eq_true rfl⟩ (Nat.le_of_ble_eq_true rfl) dX0_ships_169 ?_
    refine GG.iconst C dX0_ships_172 ic_1 ?_
    have hf := Option.some.inj hf
    subst hf
    exact GG.zret C zb_1 E dX0_ships_173
theorem gX0_ships_59 {K : gK} {X : gX} {S : Option MS} (C : gC K X cX0_ships 4 yX0_ships (some Jvm.ClassFile.FieldType.boolean) rX0_ships)  {o : (Int32 × XS)} (E : gE K X (some (.int o.1)) o.2 S rX0_ships.cells rX0_ships.slots)   :
    ∀ (M : XS) (a0 : Nat) (a1 : Nat) (s0 : Int32) (s1 : Int32), fX0_ships_59  M a0 a1 s0 s1 = some o → GG K X 4 0 0 M S 59 [(0, .ref a0), (1, .ref a1)] [.int s0, .int s1] := by
  intro M a0 a1 s0 s1 hf
  unfold fX0_ships_59 at hf
  refine GG.iadd C dX0_ships_59 ?_
  refine GG.topi fun x11 hx11 => ?_
  have hf := ltb_s hx11 hf
  refine GG.istore_n C (lv' := [(2, .int x11), (0, .ref a0), (1, .ref a1)]) dX0_ships_60 (by decide) rfl ?_
  refine GG.aload_n C dX0_ships_61 1 rfl ?_
  obtain ⟨c12, hf⟩ := gd_some hf
  refine GG.gx_X0_335 C rfl c12 dX0_ships_62 ?_
  refine GG.iload_n C dX0_ships_65 0 rfl ?_
  refine GG.iadd C dX0_ships_66 ?_
  refine GG.bipush C dX0_ships_67 bp_20 ?_
  refine GG.icmp_le C (tgt := 74) dX0_ships_69 (by decide) (fun c13 => ?_) (fun c13 => ?_)
  · have hf := if_t hf c13
    refine GG.aload_n C dX0_ships_74 1 rfl ?_
    refine GG.dup C dX0_ships_75 rfl ?_
    refine GG.gx_X0_338 C rfl c12 dX0_ships_76 ?_
    refine GG.iconst C dX0_ships_79 ic_1 ?_
    refine GG.iadd C dX0_ships_80 ?_
    refine GG.px_X0_338 C rfl c12 dX0_ships_81 ?_
    refine GG.topM fun M14 hM14 => ?_
    have hf := ltb_s hM14 hf
    refine GG.aload_n C dX0_ships_84 1 rfl ?_
    obtain ⟨c15, hf⟩ := gd_some hf
    obtain ⟨r16, hr16, hf⟩ := obd_some hf
    refine GG.gx_X0_27 C rfl c15 hr16 dX0_ships_85 ?_
    refine GG.aload_n C dX0_ships_88 2 rfl ?_
    obtain ⟨c17, hf⟩ := gd_some hf
    refine GG.gx_X0_350 C rfl c17 dX0_ships_89 ?_
    obtain ⟨v18, hv18, hf⟩ := obd_some hf
    refine GG.iald C hv18 dX0_ships_92 ?_
    refine GG.istore_n C (lv' := [(3, .int v18), (2, .int x11), (0, .ref a0), (1, .ref a1)]) dX0_ships_93 (by decide) rfl ?_
    refine GG.aload_n C dX0_ships_94 3 rfl ?_
    refine GG.gx_X0_358 C rfl c17 dX0_ships_95 ?_
    refine GG.if_ne C (tgt := 127) dX0_ships_98 (by decide) (fun c19 => ?_) (fun c19 => ?_)
    · have hf := if_f hf c19
      refine GG.aload_n C dX0_ships_127 2 rfl ?_
      refine GG.iload_n C dX0_ships_128 0 rfl ?_
      refine GG.aload_n C dX0_ships_129 3 rfl ?_
      refine GG.gx_X0_355 C rfl c17 dX0_ships_130 ?_
      refine GG.aload_n C dX0_ships_133 2 rfl ?_
      refine GG.gx_X0_341 C rfl c15 dX0_ships_134 ?_
      refine GG.aload_n C dX0_ships_137 3 rfl ?_
      refine GG.gx_X0_358 C rfl c17 dX0_ships_138 ?_
      refine GG.iadd C dX0_ships_141 ?_
      obtain ⟨p20, hp20, hf⟩ := obd_some hf
      refine GG.c_X0_365 C rfl (gX0_sets hp20) c15 ⟨Nat.le_of_ble_eq_true rfl, Nat.le_of_ble_eq_true rfl⟩ ⟨Nat.le_of_ble_eq_true rfl, Nat.le_of_ble_eq_true rfl⟩ (Nat.le_of_ble_eq_true rfl) dX0_ships_142 ?_
      refine GG.sub [2, 3, 0] rfl ?_
      exact gX0_ships_145 C E  _ _ _ _ hf
    · have hf := if_t hf c19
      refine GG.aload_n C dX0_ships_101 2 rfl ?_
      obtain ⟨r21, hr21, hf⟩ := obd_some hf
      refine GG.gx_X0_27 C rfl c15 hr21 dX0_ships_102 ?_
      refine GG.aload_n C dX0_ships_105 3 rfl ?_
      refine GG.gx_X0_355 C rfl c17 dX0_ships_106 ?_
      refine GG.topi fun x22 hx22 => ?_
      have hf := ltb_s hx22 hf
      refine GG.dup2 C dX0_ships_109 rfl rfl ?_
      obtain ⟨v23, hv23, hf⟩ := obd_some hf
      refine GG.iald C hv23 dX0_ships_110 ?_
      refine GG.iload_n C dX0_ships_111 0 rfl ?_
      refine GG.ior C dX0_ships_112 ?_
      obtain ⟨M24, hM24, hf⟩ := obd_some hf
      refine GG.iast C hM24 dX0_ships_113 ?_
      refine GG.aload_n C dX0_ships_114 2 rfl ?_
      refine GG.dup C dX0_ships_115 rfl ?_
      obtain ⟨c25, hf⟩ := gd_some hf
      refine GG.gx_X0_344 C rfl c25 dX0_ships_116 ?_
      refine GG.iconst C dX0_ships_119 ic_1 ?_
      refine GG.iadd C dX0_ships_120 ?_
      refine GG.px_X0_344 C rfl c25 dX0_ships_121 ?_
      refine GG.topM fun M26 hM26 => ?_
      have hf := ltb_s hM26 hf
      refine GG.goto C (tgt := 145) dX0_ships_124 (by decide) ?_
      refine GG.sub [2, 3, 0] rfl ?_
      exact gX0_ships_145 C E  _ _ _ _ hf
  · have hf := if_f hf c13
    refine GG.iconst C dX0_ships_72 ic_0 ?_
    have hf := Option.some.inj hf
    subst hf
    exact GG.zret C zb_0 E dX0_ships_73
theorem gX0_ships {K : gK} {S : Option MS}  {M : XS} {a0 : Nat} {a1 : Nat} {o : (Int32 × XS)} (hf : fX0_ships M a0 a1 = some o) : gMet K yX0_ships cX0_ships 4 (some Jvm.ClassFile.FieldType.boolean) rX0_ships [(.ref a0), (.ref a1)] M S (some (.int o.1)) o.2 S := by
  refine gMet.of pn_X0 (Nat.le_of_ble_eq_true rfl) fun X C E => ?_
  unfold fX0_ships at hf
  show GG K X 4 0 0 M S 0 [(0, .ref a0), (1, .ref a1)] []
  refine GG.aload_n C dX0_ships_0 0 rfl ?_
  refine GG.aload_n C dX0_ships_1 1 rfl ?_
  obtain ⟨c1, hf⟩ := gd_some hf
  refine GG.gx_X0_350 C rfl c1 dX0_ships_2 ?_
  obtain ⟨c2, hf⟩ := gd_some hf
  obtain ⟨v3, hv3, hf⟩ := obd_some hf
  refine GG.c_X0_332 C rfl (gX0_isIsland hv3) c2 ⟨Nat.le_of_ble_eq_true rfl, Nat.le_of_ble_eq_true rfl⟩ ⟨Nat.le_of_ble_eq_true rfl, Nat.le_of_ble_eq_true rfl⟩ (Nat.le_of_ble_eq_true rfl) dX0_ships_5 ?_
  refine GG.if_eq C (tgt := 33) dX0_ships_8 (by decide) (fun c4 => ?_) (fun c4 => ?_)
  · have hf := if_t hf c4
    refine GG.iconst C dX0_ships_33 ic_0 ?_
    have hf := Option.some.inj hf
    subst hf
    exact GG.zret C zb_0 E dX0_ships_34
  · have hf := if_f hf c4
    refine GG.aload_n C dX0_ships_11 0 rfl ?_
    refine GG.aload_n C dX0_ships_12 1 rfl ?_
    refine GG.gx_X0_355 C rfl c1 dX0_ships_13 ?_
    obtain ⟨v5, hv5, hf⟩ := obd_some hf
    refine GG.c_X0_332 C rfl (gX0_isIsland hv5) c2 ⟨Nat.le_of_ble_eq_true rfl, Nat.le_of_ble_eq_true rfl⟩ ⟨Nat.le_of_ble_eq_true rfl, Nat.le_of_ble_eq_true rfl⟩ (Nat.le_of_ble_eq_true rfl) dX0_ships_16 ?_
    refine GG.if_eq C (tgt := 33) dX0_ships_19 (by decide) (fun c6 => ?_) (fun c6 => ?_)
    · have hf := if_t hf c6
      refine GG.iconst C dX0_ships_33 ic_0 ?_
      have hf := Option.some.inj hf
      subst hf
      exact GG.zret C zb_0 E dX0_ships_34
    · have hf := if_f hf c6
      refine GG.aload_n C dX0_ships_22 1 rfl ?_
      refine GG.gx_X0_350 C rfl c1 dX0_ships_23 ?_
      refine GG.aload_n C dX0_ships_26 1 rfl ?_
      refine GG.gx_X0_355 C rfl c1 dX0_ships_27 ?_
      refine GG.icmp_ne C (tgt := 35) dX0_ships_30 (by decide) (fun c7 => ?_) (fun c7 => ?_)
      · have hf := if_f hf c7
        refine GG.aload_n C dX0_ships_35 1 rfl ?_
        refine GG.gx_X0_358 C rfl c1 dX0_ships_36 ?_
        refine GG.if_le C (tgt := 46) dX0_ships_39 (by decide) (fun c8 => ?_) (fun c8 => ?_)
        · have hf := if_t hf c8
          refine GG.iconst C dX0_ships_46 ic_0 ?_
          refine GG.aload_n C dX0_ships_47 1 rfl ?_
          refine GG.gx_X0_361 C rfl c1 dX0_ships_48 ?_
          refine GG.if_eq C (tgt := 58) dX0_ships_51 (by decide) (fun c9 => ?_) (fun c9 => ?_)
          · have hf := if_t hf c9
            refine GG.iconst C dX0_ships_58 ic_0 ?_
            refine GG.sub [0, 1] rfl ?_
            exact gX0_ships_59 C E  _ _ _ _ _ hf
          · have hf := if_f hf c9
            refine GG.iconst C dX0_ships_54 ic_1 ?_
            refine GG.goto C (tgt := 59) dX0_ships_55 (by decide) ?_
            refine GG.sub [0, 1] rfl ?_
            exact gX0_ships_59 C E  _ _ _ _ _ hf
        · have hf := if_f hf c8
          refine GG.iconst C dX0_ships_42 ic_1 ?_
          refine GG.goto C (tgt := 47) dX0_ships_43 (by decide) ?_
          refine GG.aload_n C dX0_ships_47 1 rfl ?_
          refine GG.gx_X0_361 C rfl c1 dX0_ships_48 ?_
          refine GG.if_eq C (tgt := 58) dX0_ships_51 (by decide) (fun c10 => ?_) (fun c10 => ?_)
          · have hf := if_t hf c10
            refine GG.iconst C dX0_ships_58 ic_0 ?_
            refine GG.sub [0, 1] rfl ?_
            exact gX0_ships_59 C E  _ _ _ _ _ hf
          · have hf := if_f hf c10
            refine GG.iconst C dX0_ships_54 ic_1 ?_
            refine GG.goto C (tgt := 59) dX0_ships_55 (by decide) ?_
            refine GG.sub [0, 1] rfl ?_
            exact gX0_ships_59 C E  _ _ _ _ _ hf
      · have hf := if_t hf c7
        refine GG.iconst C dX0_ships_33 ic_0 ?_
        have hf := Option.some.inj hf
        subst hf
        exact GG.zret C zb_0 E dX0_ships_34
theorem gX0_removes_12 {K : gK} {X : gX} {S : Option MS} (C : gC K X cX0_removes 3 yX0_removes none rX0_removes)  {o : XS} (E : gE K X none o S rX0_removes.cells rX0_removes.slots)   :
    ∀ (n : Nat) (M : XS) (a0 : Nat) (a2 : Int32), fX0_removes_12  n M a0 a2 = some o → GG K X 3 0 0 M S 12 [(0, .ref a0), (2, .int a2)] [] := by
  intro n
  induction n with
  | zero => intro M a0 a2 hf; cases hf
  | succ n ih =>
    intro M a0 a2 hf
    rw [fX0_removes_12] at hf
    refine GG.iload_n C dX0_removes_12 1 rfl ?_
    refine GG.aload_n C dX0_removes_13 0 rfl ?_
    obtain ⟨c3, hf⟩ := gd_some hf
    refine GG.gx_X0_335 C rfl c3 dX0_removes_14 ?_
    refine GG.icmp_ge C (tgt := 82) dX0_removes_17 (by decide) (fun c4 => ?_) (fun c4 => ?_)
    · have hf := if_t hf c4
      have hf := Option.some.inj hf
      subst hf
      exact GG.vret C E dX0_removes_82
    · have hf := if_f hf c4
      refine GG.aload_n C dX0_removes_20 0 rfl ?_
      obtain ⟨r5, hr5, hf⟩ := obd_some hf
      refine GG.gx_X0_72 C rfl c3 hr5 dX0_removes_21 ?_
      refine GG.iload_n C dX0_removes_24 1 rfl ?_
      refine GG.aload_n C dX0_removes_25 0 rfl ?_
      obtain ⟨r6, hr6, hf⟩ := obd_some hf
      refine GG.gx_X0_72 C rfl c3 hr6 dX0_removes_26 ?_
      refine GG.iload_n C dX0_removes_29 1 rfl ?_
      refine GG.iconst C dX0_removes_30 ic_1 ?_
      refine GG.iadd C dX0_removes_31 ?_
      obtain ⟨v7, hv7, hf⟩ := obd_some hf
      refine GG.iald C hv7 dX0_removes_32 ?_
      obtain ⟨M8, hM8, hf⟩ := obd_some hf
      refine GG.iast C hM8 dX0_removes_33 ?_
      refine GG.aload_n C dX0_removes_34 0 rfl ?_
      obtain ⟨c9, hf⟩ := gd_some hf
      obtain ⟨r10, hr10, hf⟩ := obd_some hf
      refine GG.gx_X0_75 C rfl c9 hr10 dX0_removes_35 ?_
      refine GG.iload_n C dX0_removes_38 1 rfl ?_
      refine GG.aload_n C dX0_removes_39 0 rfl ?_
      obtain ⟨r11, hr11, hf⟩ := obd_some hf
      refine GG.gx_X0_75 C rfl c9 hr11 dX0_removes_40 ?_
      refine GG.iload_n C dX0_removes_43 1 rfl ?_
      refine GG.iconst C dX0_removes_44 ic_1 ?_
      refine GG.iadd C dX0_removes_45 ?_
      obtain ⟨v12, hv12, hf⟩ := obd_some hf
      refine GG.iald C hv12 dX0_removes_46 ?_
      obtain ⟨M13, hM13, hf⟩ := obd_some hf
      refine GG.iast C hM13 dX0_removes_47 ?_
      refine GG.aload_n C dX0_removes_48 0 rfl ?_
      obtain ⟨c14, hf⟩ := gd_some hf
      obtain ⟨r15, hr15, hf⟩ := obd_some hf
      refine GG.gx_X0_78 C rfl c14 hr15 dX0_removes_49 ?_
      refine GG.iload_n C dX0_removes_52 1 rfl ?_
      refine GG.aload_n C dX0_removes_53 0 rfl ?_
      obtain ⟨r16, hr16, hf⟩ := obd_some hf
      refine GG.gx_X0_78 C rfl c14 hr16 dX0_removes_54 ?_
      refine GG.iload_n C dX0_removes_57 1 rfl ?_
      refine GG.iconst C dX0_removes_58 ic_1 ?_
      refine GG.iadd C dX0_removes_59 ?_
      obtain ⟨v17, hv17, hf⟩ := obd_some hf
      refine GG.iald C hv17 dX0_removes_60 ?_
      obtain ⟨M18, hM18, hf⟩ := obd_some hf
      refine GG.iast C hM18 dX0_removes_61 ?_
      refine GG.aload_n C dX0_removes_62 0 rfl ?_
      obtain ⟨c19, hf⟩ := gd_some hf
      obtain ⟨r20, hr20, hf⟩ := obd_some hf
      refine GG.gx_X0_81 C rfl c19 hr20 dX0_removes_63 ?_
      refine GG.iload_n C dX0_removes_66 1 rfl ?_
      refine GG.aload_n C dX0_removes_67 0 rfl ?_
      obtain ⟨r21, hr21, hf⟩ := obd_some hf
      refine GG.gx_X0_81 C rfl c19 hr21 dX0_removes_68 ?_
      refine GG.iload_n C dX0_removes_71 1 rfl ?_
      refine GG.iconst C dX0_removes_72 ic_1 ?_
      refine GG.iadd C dX0_removes_73 ?_
      obtain ⟨v22, hv22, hf⟩ := obd_some hf
      refine GG.iald C hv22 dX0_removes_74 ?_
      obtain ⟨M23, hM23, hf⟩ := obd_some hf
      refine GG.iast C hM23 dX0_removes_75 ?_
      refine GG.iinc C (v := (a2 + (nI 1))) (lv' := [(2, .int (a2 + (nI 1))), (0, .ref a0)]) dX0_removes_76 1 rfl (congrArg (a2 + ·) ic_1) (by decide) rfl ?_
      refine GG.goto C (tgt := 12) dX0_removes_79 (by decide) ?_
      refine GG.sub [1, 0] rfl ?_
      exact ih _ _ _ hf
theorem gX0_removes {K : gK} {S : Option MS}  {M : XS} {a0 : Nat} {a1 : Int32} {o : XS} (hf : fX0_removes M a0 a1 = some o) : gMet K yX0_removes cX0_removes 3 none rX0_removes [(.ref a0), (.int a1)] M S none o S := by
  refine gMet.of pn_X0 (Nat.le_of_ble_eq_true rfl) fun X C E => ?_
  unfold fX0_removes at hf
  show GG K X 3 0 0 M S 0 [(0, .ref a0), (1, .int a1)] []
  refine GG.aload_n C dX0_removes_0 0 rfl ?_
  refine GG.dup C dX0_removes_1 rfl ?_
  obtain ⟨c1, hf⟩ := gd_some hf
  refine GG.gx_X0_335 C rfl c1 dX0_removes_2 ?_
  refine GG.iconst C dX0_removes_5 ic_1 ?_
  refine GG.isub C dX0_removes_6 ?_
  refine GG.px_X0_335 C rfl c1 dX0_removes_7 ?_
  refine GG.topM fun M2 hM2 => ?_
  have hf := ltb_s hM2 hf
  refine GG.iload_n C dX0_removes_10 1 rfl ?_
  refine GG.istore_n C (lv' := [(2, .int a1), (0, .ref a0), (1, .int a1)]) dX0_removes_11 (by decide) rfl ?_
  refine GG.sub [1, 0] rfl ?_
  exact gX0_removes_12 C E  FU _ _ _ hf
theorem gX0_arrives_2 {K : gK} {X : gX} {S : Option MS} (C : gC K X cX0_arrives 2 yX0_arrives none rX0_arrives)  {o : XS} (E : gE K X none o S rX0_arrives.cells rX0_arrives.slots)   :
    ∀ (n : Nat) (M : XS) (a0 : Nat) (a1 : Int32), fX0_arrives_2  n M a0 a1 = some o → GG K X 2 0 0 M S 2 [(0, .ref a0), (1, .int a1)] [] := by
  intro n
  induction n with
  | zero => intro M a0 a1 hf; cases hf
  | succ n ih =>
    intro M a0 a1 hf
    rw [fX0_arrives_2] at hf
    refine GG.iload_n C dX0_arrives_2 1 rfl ?_
    refine GG.aload_n C dX0_arrives_3 0 rfl ?_
    obtain ⟨c1, hf⟩ := gd_some hf
    refine GG.gx_X0_335 C rfl c1 dX0_arrives_4 ?_
    refine GG.icmp_ge C (tgt := 67) dX0_arrives_7 (by decide) (fun c2 => ?_) (fun c2 => ?_)
    · have hf := if_t hf c2
      have hf := Option.some.inj hf
      subst hf
      exact GG.vret C E dX0_arrives_67
    · have hf := if_f hf c2
      refine GG.aload_n C dX0_arrives_10 0 rfl ?_
      obtain ⟨r3, hr3, hf⟩ := obd_some hf
      refine GG.gx_X0_78 C rfl c1 hr3 dX0_arrives_11 ?_
      refine GG.iload_n C dX0_arrives_14 1 rfl ?_
      obtain ⟨v4, hv4, hf⟩ := obd_some hf
      refine GG.iald C hv4 dX0_arrives_15 ?_
      refine GG.aload_n C dX0_arrives_16 0 rfl ?_
      refine GG.gx_X0_341 C rfl c1 dX0_arrives_17 ?_
      refine GG.icmp_le C (tgt := 29) dX0_arrives_20 (by decide) (fun c5 => ?_) (fun c5 => ?_)
      · have hf := if_t hf c5
        refine GG.aload_n C dX0_arrives_29 0 rfl ?_
        obtain ⟨r6, hr6, hf⟩ := obd_some hf
        refine GG.gx_X0_27 C rfl c1 hr6 dX0_arrives_30 ?_
        refine GG.aload_n C dX0_arrives_33 0 rfl ?_
        obtain ⟨r7, hr7, hf⟩ := obd_some hf
        refine GG.gx_X0_75 C rfl c1 hr7 dX0_arrives_34 ?_
        refine GG.iload_n C dX0_arrives_37 1 rfl ?_
        obtain ⟨v8, hv8, hf⟩ := obd_some hf
        refine GG.iald C hv8 dX0_arrives_38 ?_
        refine GG.dup2 C dX0_arrives_39 rfl rfl ?_
        obtain ⟨v9, hv9, hf⟩ := obd_some hf
        refine GG.iald C hv9 dX0_arrives_40 ?_
        refine GG.aload_n C dX0_arrives_41 0 rfl ?_
        obtain ⟨r10, hr10, hf⟩ := obd_some hf
        refine GG.gx_X0_72 C rfl c1 hr10 dX0_arrives_42 ?_
        refine GG.iload_n C dX0_arrives_45 1 rfl ?_
        obtain ⟨v11, hv11, hf⟩ := obd_some hf
        refine GG.iald C hv11 dX0_arrives_46 ?_
        refine GG.ior C dX0_arrives_47 ?_
        obtain ⟨M12, hM12, hf⟩ := obd_some hf
        refine GG.iast C hM12 dX0_arrives_48 ?_
        refine GG.aload_n C dX0_arrives_49 0 rfl ?_
        refine GG.dup C dX0_arrives_50 rfl ?_
        obtain ⟨c13, hf⟩ := gd_some hf
        refine GG.gx_X0_344 C rfl c13 dX0_arrives_51 ?_
        refine GG.iconst C dX0_arrives_54 ic_1 ?_
        refine GG.iadd C dX0_arrives_55 ?_
        refine GG.px_X0_344 C rfl c13 dX0_arrives_56 ?_
        refine GG.topM fun M14 hM14 => ?_
        have hf := ltb_s hM14 hf
        refine GG.aload_n C dX0_arrives_59 0 rfl ?_
        refine GG.iload_n C dX0_arrives_60 1 rfl ?_
        obtain ⟨c15, hf⟩ := gd_some hf
        obtain ⟨p16, hp16, hf⟩ := obd_some hf
        refine GG.c_X0_347 C rfl (gX0_removes hp16) c15 ⟨Nat.le_of_ble_eq_true rfl, Nat.le_of_ble_eq_true rfl⟩ ⟨Nat.le_of_ble_eq_true rfl, Nat.le_of_ble_eq_true rfl⟩ (Nat.le_of_ble_eq_true rfl) dX0_arrives_61 ?_
        refine GG.goto C (tgt := 2) dX0_arrives_64 (by decide) ?_
        refine GG.sub [0, 1] rfl ?_
        exact ih _ _ _ hf
      · have hf := if_f hf c5
        refine GG.iinc C (v := (a1 + (nI 1))) (lv' := [(1, .int (a1 + (nI 1))), (0, .ref a0)]) dX0_arrives_23 1 rfl (congrArg (a1 + ·) ic_1) (by decide) rfl ?_
        refine GG.goto C (tgt := 2) dX0_arrives_26 (by decide) ?_
        refine GG.sub [1, 0] rfl ?_
        exact ih _ _ _ hf
theorem gX0_arrives {K : gK} {S : Option MS}  {M : XS} {a0 : Nat} {o : XS} (hf : fX0_arrives M a0 = some o) : gMet K yX0_arrives cX0_arrives 2 none rX0_arrives [(.ref a0)] M S none o S := by
  refine gMet.of pn_X0 (Nat.le_of_ble_eq_true rfl) fun X C E => ?_
  unfold fX0_arrives at hf
  show GG K X 2 0 0 M S 0 [(0, .ref a0)] []
  refine GG.iconst C dX0_arrives_0 ic_0 ?_
  refine GG.istore_n C (lv' := [(1, .int (nI 0)), (0, .ref a0)]) dX0_arrives_1 (by decide) rfl ?_
  refine GG.sub [1, 0] rfl ?_
  exact gX0_arrives_2 C E  FU _ _ _ hf
theorem gX0_draws_53 {K : gK} {X : gX} {S : Option MS} (C : gC K X cX0_draws 3 yX0_draws none rX0_draws)  {o : XS} (E : gE K X none o S rX0_draws.cells rX0_draws.slots)   :
    ∀ (n : Nat) (M : XS) (a0 : Nat) (a2 : Int32), fX0_draws_53  n M a0 a2 = some o → GG K X 3 0 0 M S 53 [(0, .ref a0), (2, .int a2)] [] := by
  intro n
  induction n with
  | zero => intro M a0 a2 hf; cases hf
  | succ n ih =>
    intro M a0 a2 hf
    rw [fX0_draws_53] at hf
    refine GG.aload_n C dX0_draws_53 0 rfl ?_
    obtain ⟨c8, hf⟩ := gd_some hf
    refine GG.gx_X0_335 C rfl c8 dX0_draws_54 ?_
    refine GG.if_le C (tgt := 98) dX0_draws_57 (by decide) (fun c9 => ?_) (fun c9 => ?_)
    · have hf := if_t hf c9
      have hf := Option.some.inj hf
      subst hf
      exact GG.vret C E dX0_draws_98
    · have hf := if_f hf c9
      refine GG.aload_n C dX0_draws_60 0 rfl ?_
      obtain ⟨r10, hr10, hf⟩ := obd_some hf
      refine GG.gx_X0_81 C rfl c8 hr10 dX0_draws_61 ?_
      refine GG.aload_n C dX0_draws_64 0 rfl ?_
      refine GG.gx_X0_335 C rfl c8 dX0_draws_65 ?_
      refine GG.iconst C dX0_draws_68 ic_1 ?_
      refine GG.isub C dX0_draws_69 ?_
      obtain ⟨v11, hv11, hf⟩ := obd_some hf
      refine GG.iald C hv11 dX0_draws_70 ?_
      refine GG.iload_n C dX0_draws_71 1 rfl ?_
      refine GG.icmp_ne C (tgt := 98) dX0_draws_72 (by decide) (fun c12 => ?_) (fun c12 => ?_)
      · have hf := if_f hf c12
        have hf := Option.some.inj hf
        subst hf
        exact GG.vret C E dX0_draws_98
      · have hf := if_t hf c12
        refine GG.aload_n C dX0_draws_75 0 rfl ?_
        refine GG.dup C dX0_draws_76 rfl ?_
        refine GG.gx_X0_335 C rfl c8 dX0_draws_77 ?_
        refine GG.iconst C dX0_draws_80 ic_1 ?_
        refine GG.isub C dX0_draws_81 ?_
        refine GG.px_X0_335 C rfl c8 dX0_draws_82 ?_
        refine GG.topM fun M13 hM13 => ?_
        have hf := ltb_s hM13 hf
        refine GG.aload_n C dX0_draws_85 0 rfl ?_
        refine GG.dup C dX0_draws_86 rfl ?_
        obtain ⟨c14, hf⟩ := gd_some hf
        refine GG.gx_X0_372 C rfl c14 dX0_draws_87 ?_
        refine GG.iconst C dX0_draws_90 ic_1 ?_
        refine GG.iadd C dX0_draws_91 ?_
        refine GG.px_X0_372 C rfl c14 dX0_draws_92 ?_
        refine GG.topM fun M15 hM15 => ?_
        have hf := ltb_s hM15 hf
        refine GG.goto C (tgt := 53) dX0_draws_95 (by decide) ?_
        refine GG.sub [0, 1] rfl ?_
        exact ih _ _ _ hf
theorem gX0_draws {K : gK} {S : Option MS}  {M : XS} {a0 : Nat} {a1 : Int32} {o : XS} (hf : fX0_draws M a0 a1 = some o) : gMet K yX0_draws cX0_draws 3 none rX0_draws [(.ref a0), (.int a1)] M S none o S := by
  refine gMet.of pn_X0 (Nat.le_of_ble_eq_true rfl) fun X C E => ?_
  unfold fX0_draws at hf
  show GG K X 3 0 0 M S 0 [(0, .ref a0), (1, .int a1)] []
  refine GG.aload_n C dX0_draws_0 0 rfl ?_
  refine GG.aload_n C dX0_draws_1 0 rfl ?_
  obtain ⟨c1, hf⟩ := gd_some hf
  refine GG.gx_X0_369 C rfl c1 dX0_draws_2 ?_
  refine GG.sipush C dX0_draws_5 sp_2749 ?_
  refine GG.imul C dX0_draws_8 ?_
  refine GG.sipush C dX0_draws_9 sp_9733 ?_
  refine GG.iadd C dX0_draws_12 ?_
  refine GG.ldc C (v := (nI 65536)) q368 dX0_draws_13 ?_
  refine GG.irem C dX0_draws_15 (by decide) ?_
  refine GG.px_X0_369 C rfl c1 dX0_draws_16 ?_
  refine GG.topM fun M2 hM2 => ?_
  have hf := ltb_s hM2 hf
  refine GG.aload_n C dX0_draws_19 0 rfl ?_
  obtain ⟨c3, hf⟩ := gd_some hf
  refine GG.gx_X0_369 C rfl c3 dX0_draws_20 ?_
  refine GG.bipush C dX0_draws_23 bp_8 ?_
  refine GG.idiv C dX0_draws_25 (by decide) ?_
  refine GG.bipush C dX0_draws_26 bp_16 ?_
  refine GG.irem C dX0_draws_28 (by decide) ?_
  refine GG.iload_n C dX0_draws_29 1 rfl ?_
  refine GG.icmp_ge C (tgt := 40) dX0_draws_30 (by decide) (fun c4 => ?_) (fun c4 => ?_)
  · have hf := if_t hf c4
    have hf := Option.some.inj hf
    subst hf
    exact GG.vret C E dX0_draws_40
  · have hf := if_f hf c4
    refine GG.aload_n C dX0_draws_33 0 rfl ?_
    refine GG.gx_X0_335 C rfl c3 dX0_draws_34 ?_
    refine GG.if_ne C (tgt := 41) dX0_draws_37 (by decide) (fun c5 => ?_) (fun c5 => ?_)
    · have hf := if_f hf c5
      refine GG.aload_n C dX0_draws_41 0 rfl ?_
      obtain ⟨r6, hr6, hf⟩ := obd_some hf
      refine GG.gx_X0_81 C rfl c3 hr6 dX0_draws_42 ?_
      refine GG.aload_n C dX0_draws_45 0 rfl ?_
      refine GG.gx_X0_335 C rfl c3 dX0_draws_46 ?_
      refine GG.iconst C dX0_draws_49 ic_1 ?_
      refine GG.isub C dX0_draws_50 ?_
      obtain ⟨v7, hv7, hf⟩ := obd_some hf
      refine GG.iald C hv7 dX0_draws_51 ?_
      refine GG.istore_n C (lv' := [(2, .int v7), (0, .ref a0), (1, .int a1)]) dX0_draws_52 (by decide) rfl ?_
      refine GG.sub [1, 0] rfl ?_
      exact gX0_draws_53 C E  FU _ _ _ hf
    · have hf := if_t hf c5
      have hf := Option.some.inj hf
      subst hf
      exact GG.vret C E dX0_draws_40
theorem gX0_does_215 {K : gK} {X : gX} {S : Option MS} (C : gC K X cX0_does 5 yX0_does (some Jvm.ClassFile.FieldType.boolean) rX0_does)  {o : (Int32 × XS)} (E : gE K X (some (.int o.1)) o.2 S rX0_does.cells rX0_does.slots)   :
    ∀ (M : XS) (a0 : Nat) (a1 : Nat) (a3 : Int32), fX0_does_215  M a0 a1 a3 = some o → GG K X 5 0 0 M S 215 [(0, .ref a0), (1, .ref a1), (3, .int a3)] [] := by
  intro M a0 a1 a3 hf
  unfold fX0_does_215 at hf
  refine GG.iload_n C dX0_does_215 2 rfl ?_
  refine GG.if_eq C (tgt := 253) dX0_does_216 (by decide) (fun c58 => ?_) (fun c58 => ?_)
  · have hf := if_t hf c58
    refine GG.iload_n C dX0_does_253 2 rfl ?_
    obtain ⟨c59, hf⟩ := gd_some hf
    have hf := Option.some.inj hf
    subst hf
    exact GG.zret C c59 E dX0_does_254
  · have hf := if_f hf c58
    refine GG.aload_n C dX0_does_219 0 rfl ?_
    obtain ⟨c60, hf⟩ := gd_some hf
    obtain ⟨r61, hr61, hf⟩ := obd_some hf
    refine GG.gx_X0_27 C rfl c60 hr61 dX0_does_220 ?_
    refine GG.aload_n C dX0_does_223 1 rfl ?_
    obtain ⟨c62, hf⟩ := gd_some hf
    refine GG.gx_X0_355 C rfl c62 dX0_does_224 ?_
    refine GG.topi fun x63 hx63 => ?_
    have hf := ltb_s hx63 hf
    refine GG.dup2 C dX0_does_227 rfl rfl ?_
    obtain ⟨v64, hv64, hf⟩ := obd_some hf
    refine GG.iald C hv64 dX0_does_228 ?_
    refine GG.iconst C dX0_does_229 ic_1 ?_
    refine GG.aload_n C dX0_does_230 1 rfl ?_
    refine GG.gx_X0_350 C rfl c62 dX0_does_231 ?_
    refine GG.ishl C dX0_does_234 ?_
    refine GG.aload_n C dX0_does_235 0 rfl ?_
    obtain ⟨r65, hr65, hf⟩ := obd_some hf
    refine GG.gx_X0_37 C rfl c60 hr65 dX0_does_236 ?_
    obtain ⟨c66, hf⟩ := gd_some hf
    obtain ⟨r67, hr67, hf⟩ := obd_some hf
    refine GG.gx_X0_208 C rfl c66 hr67 dX0_does_239 ?_
    refine GG.aload_n C dX0_does_242 1 rfl ?_
    refine GG.gx_X0_350 C rfl c62 dX0_does_243 ?_
    obtain ⟨r68, hr68, hf⟩ := obd_some hf
    refine GG.aald C 0 hr68 (by decide) dX0_does_246 ?_
    obtain ⟨c69, hf⟩ := gd_some hf
    refine GG.gx_X0_242 C rfl c69 dX0_does_247 ?_
    refine GG.ior C dX0_does_250 ?_
    refine GG.ior C dX0_does_251 ?_
    obtain ⟨M70, hM70, hf⟩ := obd_some hf
    refine GG.iast C hM70 dX0_does_252 ?_
    refine GG.iload_n C dX0_does_253 2 rfl ?_
    obtain ⟨c71, hf⟩ := gd_some hf
    have hf := Option.some.inj hf
    subst hf
    exact GG.zret C c71 E dX0_does_254
theorem gX0_does_165 {K : gK} {X : gX} {S : Option MS} (C : gC K X cX0_does 5 yX0_does (some Jvm.ClassFile.FieldType.boolean) rX0_does)  {o : (Int32 × XS)} (E : gE K X (some (.int o.1)) o.2 S rX0_does.cells rX0_does.slots)   :
    ∀ (n : Nat) (M : XS) (a0 : Nat) (a1 : Nat) (a2 : Int32) (a3 : Int32) (a4 : Int32), fX0_does_165  n M a0 a1 a2 a3 a4 = some o → GG K X 5 0 0 M S 165 [(0, .ref a0), (1, .ref a1), (2, .int a2), (3, .int a3), (4, .int a4)] [] := by
  intro n
  induction n with
  | zero => intro M a0 a1 a2 a3 a4 hf; cases hf
  | succ n ih =>
    intro M a0 a1 a2 a3 a4 hf
    rw [fX0_does_165] at hf
    refine GG.iload C dX0_does_165 4 rfl ?_
    refine GG.aload_n C dX0_does_167 0 rfl ?_
    obtain ⟨c48, hf⟩ := gd_some hf
    obtain ⟨r49, hr49, hf⟩ := obd_some hf
    refine GG.gx_X0_37 C rfl c48 hr49 dX0_does_168 ?_
    obtain ⟨c50, hf⟩ := gd_some hf
    refine GG.gx_X0_152 C rfl c50 dX0_does_171 ?_
    refine GG.icmp_ge C (tgt := 215) dX0_does_174 (by decide) (fun c51 => ?_) (fun c51 => ?_)
    · have hf := if_t hf c51
      refine GG.sub [0, 1, 3] rfl ?_
      exact gX0_does_215 C E  _ _ _ _ hf
    · have hf := if_f hf c51
      refine GG.iload_n C dX0_does_177 2 rfl ?_
      refine GG.if_eq C (tgt := 215) dX0_does_178 (by decide) (fun c52 => ?_) (fun c52 => ?_)
      · have hf := if_t hf c52
        refine GG.sub [0, 1, 3] rfl ?_
        exact gX0_does_215 C E  _ _ _ _ hf
      · have hf := if_f hf c52
        refine GG.iload_n C dX0_does_181 3 rfl ?_
        refine GG.if_ne C (tgt := 203) dX0_does_182 (by decide) (fun c53 => ?_) (fun c53 => ?_)
        · have hf := if_f hf c53
          refine GG.iconst C dX0_does_203 ic_1 ?_
          refine GG.goto C (tgt := 208) dX0_does_204 (by decide) ?_
          refine GG.istore_n C (lv' := [(3, .int (nI 1)), (0, .ref a0), (1, .ref a1), (2, .int a2), (4, .int a4)]) dX0_does_208 (by decide) rfl ?_
          refine GG.iinc C (v := (a4 + (nI 1))) (lv' := [(4, .int (a4 + (nI 1))), (3, .int (nI 1)), (0, .ref a0), (1, .ref a1), (2, .int a2)]) dX0_does_209 4 rfl (congrArg (a4 + ·) ic_1) (by decide) rfl ?_
          refine GG.goto C (tgt := 165) dX0_does_212 (by decide) ?_
          refine GG.sub [2, 3, 4, 1, 0] rfl ?_
          exact ih _ _ _ _ _ _ hf
        · have hf := if_t hf c53
          refine GG.aload_n C dX0_does_185 0 rfl ?_
          obtain ⟨r54, hr54, hf⟩ := obd_some hf
          refine GG.gx_X0_27 C rfl c48 hr54 dX0_does_186 ?_
          refine GG.iload C dX0_does_189 4 rfl ?_
          obtain ⟨v55, hv55, hf⟩ := obd_some hf
          refine GG.iald C hv55 dX0_does_191 ?_
          refine GG.aload_n C dX0_does_192 1 rfl ?_
          obtain ⟨c56, hf⟩ := gd_some hf
          refine GG.gx_X0_350 C rfl c56 dX0_does_193 ?_
          refine GG.ishr C dX0_does_196 ?_
          refine GG.iconst C dX0_does_197 ic_1 ?_
          refine GG.iand C dX0_does_198 ?_
          refine GG.iconst C dX0_does_199 ic_1 ?_
          refine GG.icmp_ne C (tgt := 207) dX0_does_200 (by decide) (fun c57 => ?_) (fun c57 => ?_)
          · have hf := if_f hf c57
            refine GG.iconst C dX0_does_207 ic_0 ?_
            refine GG.istore_n C (lv' := [(3, .int (nI 0)), (0, .ref a0), (1, .ref a1), (2, .int a2), (4, .int a4)]) dX0_does_208 (by decide) rfl ?_
            refine GG.iinc C (v := (a4 + (nI 1))) (lv' := [(4, .int (a4 + (nI 1))), (3, .int (nI 0)), (0, .ref a0), (1, .ref a1), (2, .int a2)]) dX0_does_209 4 rfl (congrArg (a4 + ·) ic_1) (by decide) rfl ?_
            refine GG.goto C (tgt := 165) dX0_does_212 (by decide) ?_
            refine GG.sub [2, 3, 4, 1, 0] rfl ?_
            exact ih _ _ _ _ _ _ hf
          · have hf := if_t hf c57
            refine GG.iconst C dX0_does_203 ic_1 ?_
            refine GG.goto C (tgt := 208) dX0_does_204 (by decide) ?_
            refine GG.istore_n C (lv' := [(3, .int (nI 1)), (0, .ref a0), (1, .ref a1), (2, .int a2), (4, .int a4)]) dX0_does_208 (by decide) rfl ?_
            refine GG.iinc C (v := (a4 + (nI 1))) (lv' := [(4, .int (a4 + (nI 1))), (3, .int (nI 1)), (0, .ref a0), (1, .ref a1), (2, .int a2)]) dX0_does_209 4 rfl (congrArg (a4 + ·) ic_1) (by decide) rfl ?_
            refine GG.goto C (tgt := 165) dX0_does_212 (by decide) ?_
            refine GG.sub [2, 3, 4, 1, 0] rfl ?_
            exact ih _ _ _ _ _ _ hf
theorem gX0_does_264 {K : gK} {X : gX} {S : Option MS} (C : gC K X cX0_does 5 yX0_does (some Jvm.ClassFile.FieldType.boolean) rX0_does)  {o : (Int32 × XS)} (E : gE K X (some (.int o.1)) o.2 S rX0_does.cells rX0_does.slots)   :
    ∀ (n : Nat) (M : XS) (a0 : Nat) (a1 : Nat) (a4 : Int32), fX0_does_264  n M a0 a1 a4 = some o → GG K X 5 0 0 M S 264 [(0, .ref a0), (1, .ref a1), (4, .int a4)] [] := by
  intro n
  induction n with
  | zero => intro M a0 a1 a4 hf; cases hf
  | succ n ih =>
    intro M a0 a1 a4 hf
    rw [fX0_does_264] at hf
    refine GG.iload C dX0_does_264 2 rfl ?_
    refine GG.aload_n C dX0_does_266 1 rfl ?_
    obtain ⟨c42, hf⟩ := gd_some hf
    refine GG.gx_X0_379 C rfl c42 dX0_does_267 ?_
    refine GG.icmp_ge C (tgt := 293) dX0_does_270 (by decide) (fun c43 => ?_) (fun c43 => ?_)
    · have hf := if_t hf c43
      refine GG.iconst C dX0_does_293 ic_1 ?_
      have hf := Option.some.inj hf
      subst hf
      exact GG.zret C zb_1 E dX0_does_294
    · have hf := if_f hf c43
      refine GG.aload_n C dX0_does_273 0 rfl ?_
      refine GG.dup C dX0_does_274 rfl ?_
      obtain ⟨c44, hf⟩ := gd_some hf
      refine GG.gx_X0_341 C rfl c44 dX0_does_275 ?_
      refine GG.iconst C dX0_does_278 ic_1 ?_
      refine GG.iadd C dX0_does_279 ?_
      refine GG.px_X0_341 C rfl c44 dX0_does_280 ?_
      refine GG.topM fun M45 hM45 => ?_
      have hf := ltb_s hM45 hf
      refine GG.aload_n C dX0_does_283 0 rfl ?_
      obtain ⟨c46, hf⟩ := gd_some hf
      obtain ⟨p47, hp47, hf⟩ := obd_some hf
      refine GG.c_X0_382 C rfl (gX0_arrives hp47) c46 ⟨Nat.le_of_ble_eq_true rfl, Nat.le_of_ble_eq_true rfl⟩ ⟨Nat.le_of_ble_eq_true rfl, Nat.le_of_ble_eq_true rfl⟩ (Nat.le_of_ble_eq_true rfl) dX0_does_284 ?_
      refine GG.iinc C (v := (a4 + (nI 1))) (lv' := [(4, .int (a4 + (nI 1))), (0, .ref a0), (1, .ref a1)]) dX0_does_287 2 rfl (congrArg (a4 + ·) ic_1) (by decide) rfl ?_
      refine GG.goto C (tgt := 264) dX0_does_290 (by decide) ?_
      refine GG.sub [1, 2, 0] rfl ?_
      exact ih _ _ _ _ hf
theorem gX0_does_28 {K : gK} {X : gX} {S : Option MS} (C : gC K X cX0_does 5 yX0_does (some Jvm.ClassFile.FieldType.boolean) rX0_does)  {o : (Int32 × XS)} (E : gE K X (some (.int o.1)) o.2 S rX0_does.cells rX0_does.slots)   :
    ∀ (M : XS) (a0 : Nat) (a1 : Nat) (s0 : Int32), fX0_does_28  M a0 a1 s0 = some o → GG K X 5 0 0 M S 28 [(0, .ref a0), (1, .ref a1)] [.int s0] := by
  intro M a0 a1 s0 hf
  unfold fX0_does_28 at hf
  refine GG.istore_n C (lv' := [(2, .int s0), (0, .ref a0), (1, .ref a1)]) dX0_does_28 (by decide) rfl ?_
  refine GG.aload_n C dX0_does_29 2 rfl ?_
  obtain ⟨c7, hf⟩ := gd_some hf
  refine GG.gx_X0_375 C rfl c7 dX0_does_30 ?_
  by_cases c8 : (xI M 95 a1) = (nI 11)
  · have hf := if_t hf c8
    refine GG.tin C (k := 11) (off := 39) (tgt := 72) dX0_does_33 (by rw [c8]; rfl) (by decide) (by decide) rfl (by decide) ?_
    refine GG.iload_n C dX0_does_72 0 rfl ?_
    refine GG.if_eq C (tgt := 106) dX0_does_73 (by decide) (fun c9 => ?_) (fun c9 => ?_)
    · have hf := if_t hf c9
      refine GG.iconst C dX0_does_106 ic_0 ?_
      have hf := Option.some.inj hf
      subst hf
      exact GG.zret C zb_0 E dX0_does_107
    · have hf := if_f hf c9
      refine GG.aload_n C dX0_does_76 1 rfl ?_
      obtain ⟨c10, hf⟩ := gd_some hf
      obtain ⟨r11, hr11, hf⟩ := obd_some hf
      refine GG.gx_X0_37 C rfl c10 hr11 dX0_does_77 ?_
      obtain ⟨c12, hf⟩ := gd_some hf
      obtain ⟨r13, hr13, hf⟩ := obd_some hf
      refine GG.gx_X0_208 C rfl c12 hr13 dX0_does_80 ?_
      refine GG.aload_n C dX0_does_83 2 rfl ?_
      refine GG.gx_X0_350 C rfl c7 dX0_does_84 ?_
      obtain ⟨r14, hr14, hf⟩ := obd_some hf
      refine GG.aald C 0 hr14 (by decide) dX0_does_87 ?_
      obtain ⟨c15, hf⟩ := gd_some hf
      refine GG.gx_X0_242 C rfl c15 dX0_does_88 ?_
      refine GG.aload_n C dX0_does_91 1 rfl ?_
      obtain ⟨r16, hr16, hf⟩ := obd_some hf
      refine GG.gx_X0_27 C rfl c10 hr16 dX0_does_92 ?_
      refine GG.aload_n C dX0_does_95 2 rfl ?_
      refine GG.gx_X0_355 C rfl c7 dX0_does_96 ?_
      obtain ⟨v17, hv17, hf⟩ := obd_some hf
      refine GG.iald C hv17 dX0_does_99 ?_
      refine GG.iconst C dX0_does_100 ic_m1 ?_
      refine GG.ixor C dX0_does_101 ?_
      refine GG.iand C dX0_does_102 ?_
      refine GG.if_eq C (tgt := 108) dX0_does_103 (by decide) (fun c18 => ?_) (fun c18 => ?_)
      · have hf := if_t hf c18
        refine GG.aload_n C dX0_does_108 1 rfl ?_
        obtain ⟨r19, hr19, hf⟩ := obd_some hf
        refine GG.gx_X0_27 C rfl c10 hr19 dX0_does_109 ?_
        refine GG.aload_n C dX0_does_112 2 rfl ?_
        refine GG.gx_X0_355 C rfl c7 dX0_does_113 ?_
        refine GG.topi fun x20 hx20 => ?_
        have hf := ltb_s hx20 hf
        refine GG.dup2 C dX0_does_116 rfl rfl ?_
        obtain ⟨v21, hv21, hf⟩ := obd_some hf
        refine GG.iald C hv21 dX0_does_117 ?_
        refine GG.iconst C dX0_does_118 ic_1 ?_
        refine GG.aload_n C dX0_does_119 2 rfl ?_
        refine GG.gx_X0_350 C rfl c7 dX0_does_120 ?_
        refine GG.ishl C dX0_does_123 ?_
        refine GG.ior C dX0_does_124 ?_
        obtain ⟨M22, hM22, hf⟩ := obd_some hf
        refine GG.iast C hM22 dX0_does_125 ?_
        refine GG.iconst C dX0_does_126 ic_1 ?_
        have hf := Option.some.inj hf
        subst hf
        exact GG.zret C zb_1 E dX0_does_127
      · have hf := if_f hf c18
        refine GG.iconst C dX0_does_106 ic_0 ?_
        have hf := Option.some.inj hf
        subst hf
        exact GG.zret C zb_0 E dX0_does_107
  · have hf := if_f hf c8
    by_cases c23 : (xI M 95 a1) = (nI 12)
    · have hf := if_t hf c23
      refine GG.tin C (k := 12) (off := 222) (tgt := 255) dX0_does_33 (by rw [c23]; rfl) (by decide) (by decide) rfl (by decide) ?_
      refine GG.aload_n C dX0_does_255 1 rfl ?_
      refine GG.aload_n C dX0_does_256 2 rfl ?_
      obtain ⟨c24, hf⟩ := gd_some hf
      obtain ⟨p25, hp25, hf⟩ := obd_some hf
      refine GG.c_X0_376 C rfl (gX0_ships hp25) c24 ⟨Nat.le_of_ble_eq_true rfl, Nat.le_of_ble_eq_true rfl⟩ ⟨Nat.le_of_ble_eq_true rfl, Nat.le_of_ble_eq_true rfl⟩ (Nat.le_of_ble_eq_true rfl) dX0_does_257 ?_
      obtain ⟨c26, hf⟩ := gd_some hf
      have hf := Option.some.inj hf
      subst hf
      exact GG.zret C c26 E dX0_does_260
    · have hf := if_f hf c23
      by_cases c27 : (xI M 95 a1) = (nI 13)
      · have hf := if_t hf c27
        refine GG.tin C (k := 13) (off := 95) (tgt := 128) dX0_does_33 (by rw [c27]; rfl) (by decide) (by decide) rfl (by decide) ?_
        refine GG.iload_n C dX0_does_128 0 rfl ?_
        refine GG.if_eq C (tgt := 158) dX0_does_129 (by decide) (fun c28 => ?_) (fun c28 => ?_)
        · have hf := if_t hf c28
          refine GG.iload_n C dX0_does_158 0 rfl ?_
          obtain ⟨c29, hf⟩ := gd_some hf
          have hf := Option.some.inj hf
          subst hf
          exact GG.zret C c29 E dX0_does_159
        · have hf := if_f hf c28
          refine GG.aload_n C dX0_does_132 1 rfl ?_
          obtain ⟨c30, hf⟩ := gd_some hf
          obtain ⟨r31, hr31, hf⟩ := obd_some hf
          refine GG.gx_X0_27 C rfl c30 hr31 dX0_does_133 ?_
          refine GG.aload_n C dX0_does_136 2 rfl ?_
          refine GG.gx_X0_355 C rfl c7 dX0_does_137 ?_
          refine GG.aload_n C dX0_does_140 1 rfl ?_
          refine GG.aload_n C dX0_does_141 1 rfl ?_
          obtain ⟨r32, hr32, hf⟩ := obd_some hf
          refine GG.gx_X0_27 C rfl c30 hr32 dX0_does_142 ?_
          refine GG.aload_n C dX0_does_145 2 rfl ?_
          refine GG.gx_X0_355 C rfl c7 dX0_does_146 ?_
          obtain ⟨v33, hv33, hf⟩ := obd_some hf
          refine GG.iald C hv33 dX0_does_149 ?_
          refine GG.aload_n C dX0_does_150 2 rfl ?_
          refine GG.gx_X0_350 C rfl c7 dX0_does_151 ?_
          obtain ⟨v34, hv34, hf⟩ := obd_some hf
          refine GG.c_X0_257 C rfl (gX0_without hv34) c30 ⟨Nat.le_of_ble_eq_true rfl, Nat.le_of_ble_eq_true rfl⟩ ⟨Nat.le_of_ble_eq_true rfl, Nat.le_of_ble_eq_true rfl⟩ (Nat.le_of_ble_eq_true rfl) dX0_does_154 ?_
          obtain ⟨M35, hM35, hf⟩ := obd_some hf
          refine GG.iast C hM35 dX0_does_157 ?_
          refine GG.iload_n C dX0_does_158 0 rfl ?_
          obtain ⟨c36, hf⟩ := gd_some hf
          have hf := Option.some.inj hf
          subst hf
          exact GG.zret C c36 E dX0_does_159
      · have hf := if_f hf c27
        by_cases c37 : (xI M 95 a1) = (nI 14)
        · have hf := if_t hf c37
          refine GG.tin C (k := 14) (off := 127) (tgt := 160) dX0_does_33 (by rw [c37]; rfl) (by decide) (by decide) rfl (by decide) ?_
          refine GG.iconst C dX0_does_160 ic_0 ?_
          refine GG.istore_n C (lv' := [(3, .int (nI 0)), (2, .int s0), (0, .ref a0), (1, .ref a1)]) dX0_does_161 (by decide) rfl ?_
          refine GG.iconst C dX0_does_162 ic_0 ?_
          refine GG.istore C (lv' := [(4, .int (nI 0)), (3, .int (nI 0)), (2, .int s0), (0, .ref a0), (1, .ref a1)]) dX0_does_163 (by decide) rfl ?_
          refine GG.sub [3, 4, 2, 1, 0] rfl ?_
          exact gX0_does_165 C E  FU _ _ _ _ _ _ hf
        · have hf := if_f hf c37
          by_cases c38 : (xI M 95 a1) = (nI 15)
          · have hf := if_t hf c38
            refine GG.tin C (k := 15) (off := 228) (tgt := 261) dX0_does_33 (by rw [c38]; rfl) (by decide) (by decide) rfl (by decide) ?_
            refine GG.iconst C dX0_does_261 ic_0 ?_
            refine GG.istore C (lv' := [(4, .int (nI 0)), (2, .int s0), (0, .ref a0), (1, .ref a1)]) dX0_does_262 (by decide) rfl ?_
            refine GG.sub [2, 3, 0] rfl ?_
            exact gX0_does_264 C E  FU _ _ _ _ hf
          · have hf := if_f hf c38
            by_cases c39 : (xI M 95 a1) = (nI 16)
            · have hf := if_t hf c39
              refine GG.tin C (k := 16) (off := 262) (tgt := 295) dX0_does_33 (by rw [c39]; rfl) (by decide) (by decide) rfl (by decide) ?_
              refine GG.aload_n C dX0_does_295 1 rfl ?_
              refine GG.aload_n C dX0_does_296 2 rfl ?_
              refine GG.gx_X0_379 C rfl c7 dX0_does_297 ?_
              obtain ⟨c40, hf⟩ := gd_some hf
              obtain ⟨p41, hp41, hf⟩ := obd_some hf
              refine GG.c_X0_385 C rfl (gX0_draws hp41) c40 ⟨Nat.le_of_ble_eq_true rfl, Nat.le_of_ble_eq_true rfl⟩ ⟨Nat.le_of_ble_eq_true rfl, Nat.le_of_ble_eq_true rfl⟩ (Nat.le_of_ble_eq_true rfl) dX0_does_300 ?_
              refine GG.iconst C dX0_does_303 ic_1 ?_
              have hf := Option.some.inj hf
              subst hf
              exact GG.zret C zb_1 E dX0_does_304
            · have hf := if_f hf c39
              refine GG.tout C (tgt := 305) dX0_does_33 (by have qc8 := lv_neT c8 (a := 11) rfl; have qc23 := lv_neT c23 (a := 12) rfl; have qc27 := lv_neT c27 (a := 13) rfl; have qc37 := lv_neT c37 (a := 14) rfl; have qc38 := lv_neT c38 (a := 15) rfl; have qc39 := lv_neT c39 (a := 16) rfl; omega) (by decide) ?_
              refine GG.iconst C dX0_does_305 ic_1 ?_
              have hf := Option.some.inj hf
              subst hf
              exact GG.zret C zb_1 E dX0_does_306
theorem gX0_does {K : gK} {S : Option MS}  {M : XS} {a0 : Nat} {a1 : Nat} {o : (Int32 × XS)} (hf : fX0_does M a0 a1 = some o) : gMet K yX0_does cX0_does 5 (some Jvm.ClassFile.FieldType.boolean) rX0_does [(.ref a0), (.ref a1)] M S (some (.int o.1)) o.2 S := by
  refine gMet.of pn_X0 (Nat.le_of_ble_eq_true rfl) fun X C E => ?_
  unfold fX0_does at hf
  show GG K X 5 0 0 M S 0 [(0, .ref a0), (1, .ref a1)] []
  refine GG.aload_n C dX0_does_0 0 rfl ?_
  refine GG.aload_n C dX0_does_1 1 rfl ?_
  obtain ⟨c1, hf⟩ := gd_some hf
  refine GG.gx_X0_350 C rfl c1 dX0_does_2 ?_
  refine GG.i2l C dX0_does_5 ?_
  obtain ⟨c2, hf⟩ := gd_some hf
  obtain ⟨v3, hv3, hf⟩ := obd_some hf
  refine GG.c_X0_224 C rfl (gX0_isChange hv3) c2 ⟨Nat.le_of_ble_eq_true rfl, Nat.le_of_ble_eq_true rfl⟩ ⟨Nat.le_of_ble_eq_true rfl, Nat.le_of_ble_eq_true rfl⟩ (Nat.le_of_ble_eq_true rfl) dX0_does_6 ?_
  refine GG.if_eq C (tgt := 27) dX0_does_9 (by decide) (fun c4 => ?_) (fun c4 => ?_)
  · have hf := if_t hf c4
    refine GG.iconst C dX0_does_27 ic_0 ?_
    refine GG.sub [0, 1] rfl ?_
    exact gX0_does_28 C E  _ _ _ _ hf
  · have hf := if_f hf c4
    refine GG.aload_n C dX0_does_12 0 rfl ?_
    refine GG.aload_n C dX0_does_13 1 rfl ?_
    refine GG.gx_X0_355 C rfl c1 dX0_does_14 ?_
    obtain ⟨v5, hv5, hf⟩ := obd_some hf
    refine GG.c_X0_332 C rfl (gX0_isIsland hv5) c2 ⟨Nat.le_of_ble_eq_true rfl, Nat.le_of_ble_eq_true rfl⟩ ⟨Nat.le_of_ble_eq_true rfl, Nat.le_of_ble_eq_true rfl⟩ (Nat.le_of_ble_eq_true rfl) dX0_does_17 ?_
    refine GG.if_eq C (tgt := 27) dX0_does_20 (by decide) (fun c6 => ?_) (fun c6 => ?_)
    · have hf := if_t hf c6
      refine GG.iconst C dX0_does_27 ic_0 ?_
      refine GG.sub [0, 1] rfl ?_
      exact gX0_does_28 C E  _ _ _ _ hf
    · have hf := if_f hf c6
      refine GG.iconst C dX0_does_23 ic_1 ?_
      refine GG.goto C (tgt := 28) dX0_does_24 (by decide) ?_
      refine GG.sub [0, 1] rfl ?_
      exact gX0_does_28 C E  _ _ _ _ hf
theorem gX0_holds_2 {K : gK} {S : Option MS}  {M : XS} {a0 : Nat} {a1 : Nat} {o : Int32} (hf : fX0_holds_2 M a0 a1 = some o) : gMet K yX0_holds_2 cX0_holds_2 2 (some Jvm.ClassFile.FieldType.boolean) rX0_holds_2 [(.ref a0), (.ref a1)] M S (some (.int o)) M S := by
  refine gMet.of pn_X0 (Nat.le_of_ble_eq_true rfl) fun X C E => ?_
  unfold fX0_holds_2 at hf
  show GG K X 2 0 0 M S 0 [(0, .ref a0), (1, .ref a1)] []
  refine GG.aload_n C dX0_holds_2_0 1 rfl ?_
  obtain ⟨c1, hf⟩ := gd_some hf
  refine GG.gx_X0_388 C rfl c1 dX0_holds_2_1 ?_
  refine GG.bipush C dX0_holds_2_4 bp_27 ?_
  refine GG.icmp_ne C (tgt := 26) dX0_holds_2_6 (by decide) (fun c2 => ?_) (fun c2 => ?_)
  · have hf := if_f hf c2
    refine GG.aload_n C dX0_holds_2_26 0 rfl ?_
    refine GG.aload_n C dX0_holds_2_27 1 rfl ?_
    refine GG.gx_X0_355 C rfl c1 dX0_holds_2_28 ?_
    obtain ⟨c3, hf⟩ := gd_some hf
    obtain ⟨v4, hv4, hf⟩ := obd_some hf
    refine GG.c_X0_332 C rfl (gX0_isIsland hv4) c3 ⟨Nat.le_of_ble_eq_true rfl, Nat.le_of_ble_eq_true rfl⟩ ⟨Nat.le_of_ble_eq_true rfl, Nat.le_of_ble_eq_true rfl⟩ (Nat.le_of_ble_eq_true rfl) dX0_holds_2_31 ?_
    refine GG.if_ne C (tgt := 39) dX0_holds_2_34 (by decide) (fun c5 => ?_) (fun c5 => ?_)
    · have hf := if_f hf c5
      refine GG.aload_n C dX0_holds_2_39 1 rfl ?_
      refine GG.gx_X0_388 C rfl c1 dX0_holds_2_40 ?_
      refine GG.bipush C dX0_holds_2_43 bp_26 ?_
      refine GG.icmp_ne C (tgt := 67) dX0_holds_2_45 (by decide) (fun c6 => ?_) (fun c6 => ?_)
      · have hf := if_f hf c6
        refine GG.aload_n C dX0_holds_2_67 0 rfl ?_
        refine GG.aload_n C dX0_holds_2_68 1 rfl ?_
        refine GG.gx_X0_350 C rfl c1 dX0_holds_2_69 ?_
        refine GG.i2l C dX0_holds_2_72 ?_
        obtain ⟨v7, hv7, hf⟩ := obd_some hf
        refine GG.c_X0_224 C rfl (gX0_isChange hv7) c3 ⟨Nat.le_of_ble_eq_true rfl, Nat.le_of_ble_eq_true rfl⟩ ⟨Nat.le_of_ble_eq_true rfl, Nat.le_of_ble_eq_true rfl⟩ (Nat.le_of_ble_eq_true rfl) dX0_holds_2_73 ?_
        refine GG.if_eq C (tgt := 103) dX0_holds_2_76 (by decide) (fun c8 => ?_) (fun c8 => ?_)
        · have hf := if_t hf c8
          refine GG.iconst C dX0_holds_2_103 ic_0 ?_
          have hf := Option.some.inj hf
          subst hf
          exact GG.zret C zb_0 E dX0_holds_2_104
        · have hf := if_f hf c8
          refine GG.aload_n C dX0_holds_2_79 0 rfl ?_
          obtain ⟨r9, hr9, hf⟩ := obd_some hf
          refine GG.gx_X0_27 C rfl c3 hr9 dX0_holds_2_80 ?_
          refine GG.aload_n C dX0_holds_2_83 1 rfl ?_
          refine GG.gx_X0_355 C rfl c1 dX0_holds_2_84 ?_
          obtain ⟨v10, hv10, hf⟩ := obd_some hf
          refine GG.iald C hv10 dX0_holds_2_87 ?_
          refine GG.aload_n C dX0_holds_2_88 1 rfl ?_
          refine GG.gx_X0_350 C rfl c1 dX0_holds_2_89 ?_
          refine GG.ishr C dX0_holds_2_92 ?_
          refine GG.iconst C dX0_holds_2_93 ic_1 ?_
          refine GG.iand C dX0_holds_2_94 ?_
          refine GG.iconst C dX0_holds_2_95 ic_1 ?_
          refine GG.icmp_ne C (tgt := 103) dX0_holds_2_96 (by decide) (fun c11 => ?_) (fun c11 => ?_)
          · have hf := if_f hf c11
            refine GG.iconst C dX0_holds_2_103 ic_0 ?_
            have hf := Option.some.inj hf
            subst hf
            exact GG.zret C zb_0 E dX0_holds_2_104
          · have hf := if_t hf c11
            refine GG.iconst C dX0_holds_2_99 ic_1 ?_
            refine GG.goto C (tgt := 104) dX0_holds_2_100 (by decide) ?_
            have hf := Option.some.inj hf
            subst hf
            exact GG.zret C zb_1 E dX0_holds_2_104
      · have hf := if_t hf c6
        refine GG.aload_n C dX0_holds_2_48 0 rfl ?_
        obtain ⟨r12, hr12, hf⟩ := obd_some hf
        refine GG.gx_X0_37 C rfl c3 hr12 dX0_holds_2_49 ?_
        refine GG.aload_n C dX0_holds_2_52 0 rfl ?_
        obtain ⟨r13, hr13, hf⟩ := obd_some hf
        refine GG.gx_X0_27 C rfl c3 hr13 dX0_holds_2_53 ?_
        refine GG.aload_n C dX0_holds_2_56 1 rfl ?_
        refine GG.gx_X0_355 C rfl c1 dX0_holds_2_57 ?_
        obtain ⟨v14, hv14, hf⟩ := obd_some hf
        refine GG.iald C hv14 dX0_holds_2_60 ?_
        obtain ⟨c15, hf⟩ := gd_some hf
        obtain ⟨v16, hv16, hf⟩ := obd_some hf
        refine GG.c_X0_299 C rfl (gX4_isQuiet hv16) c15 ⟨Nat.le_of_ble_eq_true rfl, Nat.le_of_ble_eq_true rfl⟩ ⟨Nat.le_of_ble_eq_true rfl, Nat.le_of_ble_eq_true rfl⟩ (Nat.le_of_ble_eq_true rfl) dX0_holds_2_61 ?_
        refine GG.goto C (tgt := 104) dX0_holds_2_64 (by decide) ?_
        obtain ⟨c17, hf⟩ := gd_some hf
        have hf := Option.some.inj hf
        subst hf
        exact GG.zret C c17 E dX0_holds_2_104
    · have hf := if_t hf c5
      refine GG.iconst C dX0_holds_2_37 ic_0 ?_
      have hf := Option.some.inj hf
      subst hf
      exact GG.zret C zb_0 E dX0_holds_2_38
  · have hf := if_t hf c2
    refine GG.aload_n C dX0_holds_2_9 0 rfl ?_
    obtain ⟨c18, hf⟩ := gd_some hf
    refine GG.gx_X0_341 C rfl c18 dX0_holds_2_10 ?_
    refine GG.aload_n C dX0_holds_2_13 1 rfl ?_
    refine GG.gx_X0_379 C rfl c1 dX0_holds_2_14 ?_
    refine GG.icmp_lt C (tgt := 24) dX0_holds_2_17 (by decide) (fun c19 => ?_) (fun c19 => ?_)
    · have hf := if_t hf c19
      refine GG.iconst C dX0_holds_2_24 ic_0 ?_
      have hf := Option.some.inj hf
      subst hf
      exact GG.zret C zb_0 E dX0_holds_2_25
    · have hf := if_f hf c19
      refine GG.iconst C dX0_holds_2_20 ic_1 ?_
      refine GG.goto C (tgt := 25) dX0_holds_2_21 (by decide) ?_
      have hf := Option.some.inj hf
      subst hf
      exact GG.zret C zb_1 E dX0_holds_2_25
theorem gX0_behindEnds_75 {K : gK} {X : gX} {S : Option MS} (C : gC K X cX0_behindEnds 5 yX0_behindEnds (some Jvm.ClassFile.FieldType.int) rX0_behindEnds)  {o : (Int32 × XS)} (E : gE K X (some (.int o.1)) o.2 S rX0_behindEnds.cells rX0_behindEnds.slots) {k2 : XS → Nat → Int32 → Option (Int32 × XS)} (hk2 : ∀ (M : XS) (a0 : Nat) (a2 : Int32), k2 M a0 a2 = some o → GG K X 5 0 0 M S 2 [(0, .ref a0), (2, .int a2)] []) :
    ∀ (M : XS) (a0 : Nat) (a2 : Int32) (a4 : Int32), fX0_behindEnds_75 k2 M a0 a2 a4 = some o → GG K X 5 0 0 M S 75 [(0, .ref a0), (2, .int a2), (4, .int a4)] [] := by
  intro M a0 a2 a4 hf
  unfold fX0_behindEnds_75 at hf
  refine GG.iload C dX0_behindEnds_75 2 rfl ?_
  refine GG.if_eq C (tgt := 94) dX0_behindEnds_77 (by decide) (fun c17 => ?_) (fun c17 => ?_)
  · have hf := if_t hf c17
    refine GG.iload_n C dX0_behindEnds_94 1 rfl ?_
    refine GG.iconst C dX0_behindEnds_95 ic_1 ?_
    refine GG.iadd C dX0_behindEnds_96 ?_
    refine GG.topi fun x18 hx18 => ?_
    have hf := ltb_s hx18 hf
    refine GG.istore_n C (lv' := [(2, .int x18), (0, .ref a0), (4, .int a4)]) dX0_behindEnds_97 (by decide) rfl ?_
    refine GG.goto C (tgt := 2) dX0_behindEnds_98 (by decide) ?_
    refine GG.sub [1, 0] rfl ?_
    exact hk2 _ _ _ hf
  · have hf := if_f hf c17
    refine GG.aload_n C dX0_behindEnds_80 0 rfl ?_
    obtain ⟨c19, hf⟩ := gd_some hf
    obtain ⟨r20, hr20, hf⟩ := obd_some hf
    refine GG.gx_X0_190 C rfl c19 hr20 dX0_behindEnds_81 ?_
    refine GG.iload_n C dX0_behindEnds_84 1 rfl ?_
    obtain ⟨r21, hr21, hf⟩ := obd_some hf
    refine GG.aald C 2 hr21 (by decide) dX0_behindEnds_85 ?_
    obtain ⟨c22, hf⟩ := gd_some hf
    refine GG.gx_X0_391 C rfl c22 dX0_behindEnds_86 ?_
    refine GG.iconst C dX0_behindEnds_89 ic_1 ?_
    refine GG.iadd C dX0_behindEnds_90 ?_
    refine GG.goto C (tgt := 97) dX0_behindEnds_91 (by decide) ?_
    refine GG.topi fun x23 hx23 => ?_
    have hf := ltb_s hx23 hf
    refine GG.istore_n C (lv' := [(2, .int x23), (0, .ref a0), (4, .int a4)]) dX0_behindEnds_97 (by decide) rfl ?_
    refine GG.goto C (tgt := 2) dX0_behindEnds_98 (by decide) ?_
    refine GG.sub [1, 0] rfl ?_
    exact hk2 _ _ _ hf
theorem gX0_behindEnds_2 {K : gK} {X : gX} {S : Option MS} (C : gC K X cX0_behindEnds 5 yX0_behindEnds (some Jvm.ClassFile.FieldType.int) rX0_behindEnds)  {o : (Int32 × XS)} (E : gE K X (some (.int o.1)) o.2 S rX0_behindEnds.cells rX0_behindEnds.slots)   :
    ∀ (n : Nat) (M : XS) (a0 : Nat) (a2 : Int32), fX0_behindEnds_2  n M a0 a2 = some o → GG K X 5 0 0 M S 2 [(0, .ref a0), (2, .int a2)] [] := by
  intro n
  induction n with
  | zero => intro M a0 a2 hf; cases hf
  | succ n ih =>
    intro M a0 a2 hf
    rw [fX0_behindEnds_2] at hf
    refine GG.iload_n C dX0_behindEnds_2 1 rfl ?_
    refine GG.aload_n C dX0_behindEnds_3 0 rfl ?_
    obtain ⟨c1, hf⟩ := gd_some hf
    refine GG.gx_X0_194 C rfl c1 dX0_behindEnds_4 ?_
    refine GG.icmp_ge C (tgt := 101) dX0_behindEnds_7 (by decide) (fun c2 => ?_) (fun c2 => ?_)
    · have hf := if_t hf c2
      refine GG.iload_n C dX0_behindEnds_101 1 rfl ?_
      have hf := Option.some.inj hf
      subst hf
      exact GG.iret C E dX0_behindEnds_102
    · have hf := if_f hf c2
      refine GG.aload_n C dX0_behindEnds_10 0 rfl ?_
      obtain ⟨r3, hr3, hf⟩ := obd_some hf
      refine GG.gx_X0_190 C rfl c1 hr3 dX0_behindEnds_11 ?_
      refine GG.iload_n C dX0_behindEnds_14 1 rfl ?_
      obtain ⟨r4, hr4, hf⟩ := obd_some hf
      refine GG.aald C 2 hr4 (by decide) dX0_behindEnds_15 ?_
      obtain ⟨c5, hf⟩ := gd_some hf
      refine GG.gx_X0_375 C rfl c5 dX0_behindEnds_16 ?_
      refine GG.bipush C dX0_behindEnds_19 bp_20 ?_
      refine GG.icmp_ne C (tgt := 101) dX0_behindEnds_21 (by decide) (fun c6 => ?_) (fun c6 => ?_)
      · have hf := if_f hf c6
        refine GG.iload_n C dX0_behindEnds_101 1 rfl ?_
        have hf := Option.some.inj hf
        subst hf
        exact GG.iret C E dX0_behindEnds_102
      · have hf := if_t hf c6
        refine GG.aload_n C dX0_behindEnds_24 0 rfl ?_
        obtain ⟨r7, hr7, hf⟩ := obd_some hf
        refine GG.gx_X0_190 C rfl c1 hr7 dX0_behindEnds_25 ?_
        refine GG.aload_n C dX0_behindEnds_28 0 rfl ?_
        obtain ⟨r8, hr8, hf⟩ := obd_some hf
        refine GG.gx_X0_190 C rfl c1 hr8 dX0_behindEnds_29 ?_
        refine GG.iload_n C dX0_behindEnds_32 1 rfl ?_
        obtain ⟨r9, hr9, hf⟩ := obd_some hf
        refine GG.aald C 2 hr9 (by decide) dX0_behindEnds_33 ?_
        obtain ⟨c10, hf⟩ := gd_some hf
        refine GG.gx_X0_391 C rfl c10 dX0_behindEnds_34 ?_
        obtain ⟨r11, hr11, hf⟩ := obd_some hf
        refine GG.aald C 2 hr11 (by decide) dX0_behindEnds_37 ?_
        refine GG.astore_n C (lv' := [(3, .ref r11), (0, .ref a0), (2, .int a2)]) dX0_behindEnds_38 (by decide) rfl ?_
        refine GG.iconst C dX0_behindEnds_39 ic_0 ?_
        refine GG.istore C (lv' := [(4, .int (nI 0)), (3, .ref r11), (0, .ref a0), (2, .int a2)]) dX0_behindEnds_40 (by decide) rfl ?_
        refine GG.aload_n C dX0_behindEnds_42 1 rfl ?_
        obtain ⟨c12, hf⟩ := gd_some hf
        refine GG.gx_X0_375 C rfl c12 dX0_behindEnds_43 ?_
        refine GG.bipush C dX0_behindEnds_46 bp_18 ?_
        refine GG.icmp_ne C (tgt := 75) dX0_behindEnds_48 (by decide) (fun c13 => ?_) (fun c13 => ?_)
        · have hf := if_f hf c13
          refine GG.sub [2, 3, 0] rfl ?_
          exact gX0_behindEnds_75 C E (hk2 := ih) _ _ _ _ hf
        · have hf := if_t hf c13
          refine GG.aload_n C dX0_behindEnds_51 1 rfl ?_
          refine GG.dup C dX0_behindEnds_52 rfl ?_
          refine GG.gx_X0_394 C rfl c12 dX0_behindEnds_53 ?_
          refine GG.iconst C dX0_behindEnds_56 ic_1 ?_
          refine GG.isub C dX0_behindEnds_57 ?_
          refine GG.px_X0_394 C rfl c12 dX0_behindEnds_58 ?_
          refine GG.topM fun M14 hM14 => ?_
          have hf := ltb_s hM14 hf
          refine GG.aload_n C dX0_behindEnds_61 1 rfl ?_
          obtain ⟨c15, hf⟩ := gd_some hf
          refine GG.gx_X0_394 C rfl c15 dX0_behindEnds_62 ?_
          refine GG.if_le C (tgt := 72) dX0_behindEnds_65 (by decide) (fun c16 => ?_) (fun c16 => ?_)
          · have hf := if_t hf c16
            refine GG.iconst C dX0_behindEnds_72 ic_0 ?_
            refine GG.istore C (lv' := [(4, .int (nI 0)), (3, .ref r11), (0, .ref a0), (2, .int a2)]) dX0_behindEnds_73 (by decide) rfl ?_
            refine GG.sub [2, 3, 0] rfl ?_
            exact gX0_behindEnds_75 C E (hk2 := ih) _ _ _ _ hf
          · have hf := if_f hf c16
            refine GG.iconst C dX0_behindEnds_68 ic_1 ?_
            refine GG.goto C (tgt := 73) dX0_behindEnds_69 (by decide) ?_
            refine GG.istore C (lv' := [(4, .int (nI 1)), (3, .ref r11), (0, .ref a0), (2, .int a2)]) dX0_behindEnds_73 (by decide) rfl ?_
            refine GG.sub [2, 3, 0] rfl ?_
            exact gX0_behindEnds_75 C E (hk2 := ih) _ _ _ _ hf
theorem gX0_behindEnds {K : gK} {S : Option MS}  {M : XS} {a0 : Nat} {a1 : Int32} {o : (Int32 × XS)} (hf : fX0_behindEnds M a0 a1 = some o) : gMet K yX0_behindEnds cX0_behindEnds 5 (some Jvm.ClassFile.FieldType.int) rX0_behindEnds [(.ref a0), (.int a1)] M S (some (.int o.1)) o.2 S := by
  refine gMet.of pn_X0 (Nat.le_of_ble_eq_true rfl) fun X C E => ?_
  unfold fX0_behindEnds at hf
  show GG K X 5 0 0 M S 0 [(0, .ref a0), (1, .int a1)] []
  refine GG.iload_n C dX0_behindEnds_0 1 rfl ?_
  refine GG.istore_n C (lv' := [(2, .int a1), (0, .ref a0), (1, .int a1)]) dX0_behindEnds_1 (by decide) rfl ?_
  refine GG.sub [1, 0] rfl ?_
  exact gX0_behindEnds_2 C E  FU _ _ _ hf
theorem gX0_sails_126 {K : gK} {X : gX} {S : Option MS} (C : gC K X cX0_sails 4 yX0_sails none rX0_sails)  {o : XS} (E : gE K X none o S rX0_sails.cells rX0_sails.slots) {k42 : XS → Nat → Int32 → Option XS} (hk42 : ∀ (M : XS) (a0 : Nat) (a2 : Int32), k42 M a0 a2 = some o → GG K X 4 0 0 M S 42 [(0, .ref a0), (2, .int a2)] []) :
    ∀ (M : XS) (a0 : Nat) (a2 : Int32) (a3 : Nat), fX0_sails_126 k42 M a0 a2 a3 = some o → GG K X 4 0 0 M S 126 [(0, .ref a0), (2, .int a2), (3, .ref a3)] [] := by
  intro M a0 a2 a3 hf
  unfold fX0_sails_126 at hf
  refine GG.aload_n C dX0_sails_126 0 rfl ?_
  refine GG.aload_n C dX0_sails_127 2 rfl ?_
  obtain ⟨c38, hf⟩ := gd_some hf
  refine GG.gx_X0_375 C rfl c38 dX0_sails_128 ?_
  refine GG.bipush C dX0_sails_131 bp_17 ?_
  refine GG.icmp_ne C (tgt := 153) dX0_sails_133 (by decide) (fun c39 => ?_) (fun c39 => ?_)
  · have hf := if_f hf c39
    refine GG.iload_n C dX0_sails_153 1 rfl ?_
    refine GG.iconst C dX0_sails_154 ic_1 ?_
    refine GG.iadd C dX0_sails_155 ?_
    obtain ⟨c40, hf⟩ := gd_some hf
    obtain ⟨p41, hp41, hf⟩ := obd_some hf
    refine GG.c_X0_408 C rfl (gX0_behindEnds hp41) c40 ⟨Nat.le_of_ble_eq_true rfl, Nat.le_of_ble_eq_true rfl⟩ ⟨Nat.le_of_ble_eq_true rfl, Nat.le_of_ble_eq_true rfl⟩ (Nat.le_of_ble_eq_true rfl) dX0_sails_156 ?_
    refine GG.istore_n C (lv' := [(2, .int p41.1), (0, .ref a0), (3, .ref a3)]) dX0_sails_159 (by decide) rfl ?_
    refine GG.goto C (tgt := 42) dX0_sails_160 (by decide) ?_
    refine GG.sub [1, 0] rfl ?_
    exact hk42 _ _ _ hf
  · have hf := if_t hf c39
    refine GG.aload_n C dX0_sails_136 0 rfl ?_
    refine GG.aload_n C dX0_sails_137 2 rfl ?_
    obtain ⟨c42, hf⟩ := gd_some hf
    obtain ⟨v43, hv43, hf⟩ := obd_some hf
    refine GG.c_X0_406 C rfl (gX0_holds_2 hv43) c42 ⟨Nat.le_of_ble_eq_true rfl, Nat.le_of_ble_eq_true rfl⟩ ⟨Nat.le_of_ble_eq_true rfl, Nat.le_of_ble_eq_true rfl⟩ (Nat.le_of_ble_eq_true rfl) dX0_sails_138 ?_
    refine GG.if_ne C (tgt := 153) dX0_sails_141 (by decide) (fun c44 => ?_) (fun c44 => ?_)
    · have hf := if_f hf c44
      refine GG.iload_n C dX0_sails_153 1 rfl ?_
      refine GG.iconst C dX0_sails_154 ic_1 ?_
      refine GG.iadd C dX0_sails_155 ?_
      obtain ⟨p45, hp45, hf⟩ := obd_some hf
      refine GG.c_X0_408 C rfl (gX0_behindEnds hp45) c42 ⟨Nat.le_of_ble_eq_true rfl, Nat.le_of_ble_eq_true rfl⟩ ⟨Nat.le_of_ble_eq_true rfl, Nat.le_of_ble_eq_true rfl⟩ (Nat.le_of_ble_eq_true rfl) dX0_sails_156 ?_
      refine GG.istore_n C (lv' := [(2, .int p45.1), (0, .ref a0), (3, .ref a3)]) dX0_sails_159 (by decide) rfl ?_
      refine GG.goto C (tgt := 42) dX0_sails_160 (by decide) ?_
      refine GG.sub [1, 0] rfl ?_
      exact hk42 _ _ _ hf
    · have hf := if_t hf c44
      refine GG.aload_n C dX0_sails_144 2 rfl ?_
      refine GG.gx_X0_391 C rfl c38 dX0_sails_145 ?_
      refine GG.iconst C dX0_sails_148 ic_1 ?_
      refine GG.iadd C dX0_sails_149 ?_
      refine GG.goto C (tgt := 156) dX0_sails_150 (by decide) ?_
      obtain ⟨p46, hp46, hf⟩ := obd_some hf
      refine GG.c_X0_408 C rfl (gX0_behindEnds hp46) c42 ⟨Nat.le_of_ble_eq_true rfl, Nat.le_of_ble_eq_true rfl⟩ ⟨Nat.le_of_ble_eq_true rfl, Nat.le_of_ble_eq_true rfl⟩ (Nat.le_of_ble_eq_true rfl) dX0_sails_156 ?_
      refine GG.istore_n C (lv' := [(2, .int p46.1), (0, .ref a0), (3, .ref a3)]) dX0_sails_159 (by decide) rfl ?_
      refine GG.goto C (tgt := 42) dX0_sails_160 (by decide) ?_
      refine GG.sub [1, 0] rfl ?_
      exact hk42 _ _ _ hf
theorem gX0_sails_42 {K : gK} {X : gX} {S : Option MS} (C : gC K X cX0_sails 4 yX0_sails none rX0_sails)  {o : XS} (E : gE K X none o S rX0_sails.cells rX0_sails.slots)   :
    ∀ (n : Nat) (M : XS) (a0 : Nat) (a2 : Int32), fX0_sails_42  n M a0 a2 = some o → GG K X 4 0 0 M S 42 [(0, .ref a0), (2, .int a2)] [] := by
  intro n
  induction n with
  | zero => intro M a0 a2 hf; cases hf
  | succ n ih =>
    intro M a0 a2 hf
    rw [fX0_sails_42] at hf
    refine GG.iload_n C dX0_sails_42 1 rfl ?_
    refine GG.aload_n C dX0_sails_43 0 rfl ?_
    obtain ⟨c17, hf⟩ := gd_some hf
    refine GG.gx_X0_194 C rfl c17 dX0_sails_44 ?_
    refine GG.icmp_ge C (tgt := 163) dX0_sails_47 (by decide) (fun c18 => ?_) (fun c18 => ?_)
    · have hf := if_t hf c18
      have hf := Option.some.inj hf
      subst hf
      exact GG.vret C E dX0_sails_163
    · have hf := if_f hf c18
      refine GG.aload_n C dX0_sails_50 0 rfl ?_
      refine GG.gx_X0_400 C rfl c17 dX0_sails_51 ?_
      refine GG.sipush C dX0_sails_54 sp_300 ?_
      refine GG.icmp_ge C (tgt := 163) dX0_sails_57 (by decide) (fun c19 => ?_) (fun c19 => ?_)
      · have hf := if_t hf c19
        have hf := Option.some.inj hf
        subst hf
        exact GG.vret C E dX0_sails_163
      · have hf := if_f hf c19
        refine GG.aload_n C dX0_sails_60 0 rfl ?_
        obtain ⟨r20, hr20, hf⟩ := obd_some hf
        refine GG.gx_X0_190 C rfl c17 hr20 dX0_sails_61 ?_
        refine GG.iload_n C dX0_sails_64 1 rfl ?_
        obtain ⟨r21, hr21, hf⟩ := obd_some hf
        refine GG.aald C 2 hr21 (by decide) dX0_sails_65 ?_
        refine GG.astore_n C (lv' := [(3, .ref r21), (0, .ref a0), (2, .int a2)]) dX0_sails_66 (by decide) rfl ?_
        refine GG.aload_n C dX0_sails_67 1 rfl ?_
        refine GG.dup C dX0_sails_68 rfl ?_
        refine GG.gx_X0_400 C rfl c17 dX0_sails_69 ?_
        refine GG.iconst C dX0_sails_72 ic_1 ?_
        refine GG.iadd C dX0_sails_73 ?_
        refine GG.px_X0_400 C rfl c17 dX0_sails_74 ?_
        refine GG.topM fun M22 hM22 => ?_
        have hf := ltb_s hM22 hf
        refine GG.aload_n C dX0_sails_77 0 rfl ?_
        obtain ⟨c23, hf⟩ := gd_some hf
        refine GG.gx_X0_375 C rfl c23 dX0_sails_78 ?_
        refine GG.bipush C dX0_sails_81 bp_19 ?_
        refine GG.icmp_ne C (tgt := 87) dX0_sails_83 (by decide) (fun c24 => ?_) (fun c24 => ?_)
        · have hf := if_f hf c24
          refine GG.aload_n C dX0_sails_87 1 rfl ?_
          refine GG.dup C dX0_sails_88 rfl ?_
          obtain ⟨c25, hf⟩ := gd_some hf
          refine GG.gx_X0_397 C rfl c25 dX0_sails_89 ?_
          refine GG.aload_n C dX0_sails_92 1 rfl ?_
          refine GG.aload_n C dX0_sails_93 0 rfl ?_
          obtain ⟨p26, hp26, hf⟩ := obd_some hf
          refine GG.c_X0_403 C rfl (gX0_does hp26) c25 ⟨Nat.le_of_ble_eq_true rfl, Nat.le_of_ble_eq_true rfl⟩ ⟨Nat.le_of_ble_eq_true rfl, Nat.le_of_ble_eq_true rfl⟩ (Nat.le_of_ble_eq_true rfl) dX0_sails_94 ?_
          refine GG.if_eq C (tgt := 104) dX0_sails_97 (by decide) (fun c27 => ?_) (fun c27 => ?_)
          · have hf := if_t hf c27
            refine GG.iconst C dX0_sails_104 ic_1 ?_
            refine GG.iadd C dX0_sails_105 ?_
            obtain ⟨c28, hf⟩ := gd_some hf
            refine GG.px_X0_397 C rfl c28 dX0_sails_106 ?_
            refine GG.topM fun M29 hM29 => ?_
            have hf := ltb_s hM29 hf
            refine GG.aload_n C dX0_sails_109 0 rfl ?_
            obtain ⟨c30, hf⟩ := gd_some hf
            refine GG.gx_X0_375 C rfl c30 dX0_sails_110 ?_
            refine GG.bipush C dX0_sails_113 bp_18 ?_
            refine GG.icmp_ne C (tgt := 126) dX0_sails_115 (by decide) (fun c31 => ?_) (fun c31 => ?_)
            · have hf := if_f hf c31
              refine GG.sub [1, 2, 0] rfl ?_
              exact gX0_sails_126 C E (hk42 := ih) _ _ _ _ hf
            · have hf := if_t hf c31
              refine GG.aload_n C dX0_sails_118 0 rfl ?_
              refine GG.aload_n C dX0_sails_119 0 rfl ?_
              refine GG.gx_X0_379 C rfl c30 dX0_sails_120 ?_
              refine GG.px_X0_394 C rfl c30 dX0_sails_123 ?_
              refine GG.topM fun M32 hM32 => ?_
              have hf := ltb_s hM32 hf
              refine GG.sub [1, 2, 0] rfl ?_
              exact gX0_sails_126 C E (hk42 := ih) _ _ _ _ hf
          · have hf := if_f hf c27
            refine GG.iconst C dX0_sails_100 ic_0 ?_
            refine GG.goto C (tgt := 105) dX0_sails_101 (by decide) ?_
            refine GG.iadd C dX0_sails_105 ?_
            obtain ⟨c33, hf⟩ := gd_some hf
            refine GG.px_X0_397 C rfl c33 dX0_sails_106 ?_
            refine GG.topM fun M34 hM34 => ?_
            have hf := ltb_s hM34 hf
            refine GG.aload_n C dX0_sails_109 0 rfl ?_
            obtain ⟨c35, hf⟩ := gd_some hf
            refine GG.gx_X0_375 C rfl c35 dX0_sails_110 ?_
            refine GG.bipush C dX0_sails_113 bp_18 ?_
            refine GG.icmp_ne C (tgt := 126) dX0_sails_115 (by decide) (fun c36 => ?_) (fun c36 => ?_)
            · have hf := if_f hf c36
              refine GG.sub [1, 2, 0] rfl ?_
              exact gX0_sails_126 C E (hk42 := ih) _ _ _ _ hf
            · have hf := if_t hf c36
              refine GG.aload_n C dX0_sails_118 0 rfl ?_
              refine GG.aload_n C dX0_sails_119 0 rfl ?_
              refine GG.gx_X0_379 C rfl c35 dX0_sails_120 ?_
              refine GG.px_X0_394 C rfl c35 dX0_sails_123 ?_
              refine GG.topM fun M37 hM37 => ?_
              have hf := ltb_s hM37 hf
              refine GG.sub [1, 2, 0] rfl ?_
              exact gX0_sails_126 C E (hk42 := ih) _ _ _ _ hf
        · have hf := if_t hf c24
          have hf := Option.some.inj hf
          subst hf
          exact GG.vret C E dX0_sails_86
theorem gX0_sails {K : gK} {S : Option MS}  {M : XS} {a0 : Nat} {a1 : Int32} {o : XS} (hf : fX0_sails M a0 a1 = some o) : gMet K yX0_sails cX0_sails 4 none rX0_sails [(.ref a0), (.int a1)] M S none o S := by
  refine gMet.of pn_X0 (Nat.le_of_ble_eq_true rfl) fun X C E => ?_
  unfold fX0_sails at hf
  show GG K X 4 0 0 M S 0 [(0, .ref a0), (1, .int a1)] []
  refine GG.aload_n C dX0_sails_0 0 rfl ?_
  refine GG.iload_n C dX0_sails_1 1 rfl ?_
  obtain ⟨c1, hf⟩ := gd_some hf
  refine GG.px_X0_369 C rfl c1 dX0_sails_2 ?_
  refine GG.topM fun M2 hM2 => ?_
  have hf := ltb_s hM2 hf
  refine GG.aload_n C dX0_sails_5 0 rfl ?_
  refine GG.iconst C dX0_sails_6 ic_0 ?_
  obtain ⟨c3, hf⟩ := gd_some hf
  refine GG.px_X0_341 C rfl c3 dX0_sails_7 ?_
  refine GG.topM fun M4 hM4 => ?_
  have hf := ltb_s hM4 hf
  refine GG.aload_n C dX0_sails_10 0 rfl ?_
  refine GG.iconst C dX0_sails_11 ic_0 ?_
  obtain ⟨c5, hf⟩ := gd_some hf
  refine GG.px_X0_397 C rfl c5 dX0_sails_12 ?_
  refine GG.topM fun M6 hM6 => ?_
  have hf := ltb_s hM6 hf
  refine GG.aload_n C dX0_sails_15 0 rfl ?_
  refine GG.iconst C dX0_sails_16 ic_0 ?_
  obtain ⟨c7, hf⟩ := gd_some hf
  refine GG.px_X0_344 C rfl c7 dX0_sails_17 ?_
  refine GG.topM fun M8 hM8 => ?_
  have hf := ltb_s hM8 hf
  refine GG.aload_n C dX0_sails_20 0 rfl ?_
  refine GG.iconst C dX0_sails_21 ic_0 ?_
  obtain ⟨c9, hf⟩ := gd_some hf
  refine GG.px_X0_372 C rfl c9 dX0_sails_22 ?_
  refine GG.topM fun M10 hM10 => ?_
  have hf := ltb_s hM10 hf
  refine GG.aload_n C dX0_sails_25 0 rfl ?_
  refine GG.iconst C dX0_sails_26 ic_0 ?_
  obtain ⟨c11, hf⟩ := gd_some hf
  refine GG.px_X0_338 C rfl c11 dX0_sails_27 ?_
  refine GG.topM fun M12 hM12 => ?_
  have hf := ltb_s hM12 hf
  refine GG.aload_n C dX0_sails_30 0 rfl ?_
  refine GG.iconst C dX0_sails_31 ic_0 ?_
  obtain ⟨c13, hf⟩ := gd_some hf
  refine GG.px_X0_335 C rfl c13 dX0_sails_32 ?_
  refine GG.topM fun M14 hM14 => ?_
  have hf := ltb_s hM14 hf
  refine GG.aload_n C dX0_sails_35 0 rfl ?_
  refine GG.iconst C dX0_sails_36 ic_0 ?_
  obtain ⟨c15, hf⟩ := gd_some hf
  refine GG.px_X0_400 C rfl c15 dX0_sails_37 ?_
  refine GG.topM fun M16 hM16 => ?_
  have hf := ltb_s hM16 hf
  refine GG.iconst C dX0_sails_40 ic_0 ?_
  refine GG.istore_n C (lv' := [(2, .int (nI 0)), (0, .ref a0), (1, .int a1)]) dX0_sails_41 (by decide) rfl ?_
  refine GG.sub [1, 0] rfl ?_
  exact gX0_sails_42 C E  FU _ _ _ hf
theorem gX0_sail {K : gK} {S : Option MS}  {M : XS} {a0 : Nat} {a1 : Int32} {o : (Int32 × XS)} (hf : fX0_sail M a0 a1 = some o) : gMet K yX0_sail cX0_sail 2 (some Jvm.ClassFile.FieldType.int) rX0_sail [(.ref a0), (.int a1)] M S (some (.int o.1)) o.2 S := by
  refine gMet.of pn_X0 (Nat.le_of_ble_eq_true rfl) fun X C E => ?_
  unfold fX0_sail at hf
  show GG K X 2 0 0 M S 0 [(0, .ref a0), (1, .int a1)] []
  refine GG.iload_n C dX0_sail_0 1 rfl ?_
  refine GG.i2l C dX0_sail_1 ?_
  refine GG.lconst C dX0_sail_2 lc_0 ?_
  refine GG.ldc2 C (v := (lN 9999)) q1361 dX0_sail_3 ?_
  obtain ⟨v1, hv1, hf⟩ := obd_some hf
  refine GG.c_X0_317 C rfl (gX0_isFrom hv1) ⟨Nat.le_of_ble_eq_true rfl, Nat.le_of_ble_eq_true rfl⟩ ⟨Nat.le_of_ble_eq_true rfl, Nat.le_of_ble_eq_true rfl⟩ (Nat.le_of_ble_eq_true rfl) dX0_sail_6 ?_
  refine GG.if_ne C (tgt := 18) dX0_sail_9 (by decide) (fun c2 => ?_) (fun c2 => ?_)
  · have hf := if_f hf c2
    refine GG.aload_n C dX0_sail_18 0 rfl ?_
    obtain ⟨c3, hf⟩ := gd_some hf
    refine GG.gx_X0_190o C rfl c3 dX0_sail_19 ?_
    cases c26 : (xR M 5 a0) with
    | none =>
      rw [c26] at hf
      refine GG.ifnonnullN C dX0_sail_22 ?_
      refine GG.aload_n C dX0_sail_25 0 rfl ?_
      refine GG.bipush C dX0_sail_26 bp_8 ?_
      obtain ⟨p5, hp5, hf⟩ := obd_some hf
      refine GG.c_X0_124 C rfl (gX0_none hp5) c3 ⟨Nat.le_of_ble_eq_true rfl, Nat.le_of_ble_eq_true rfl⟩ ⟨Nat.le_of_ble_eq_true rfl, Nat.le_of_ble_eq_true rfl⟩ (Nat.le_of_ble_eq_true rfl) dX0_sail_28 ?_
      have hf := Option.some.inj hf
      subst hf
      exact GG.iret C E dX0_sail_31
    | some r4 =>
      rw [c26] at hf
      refine GG.ifnonnull C (tgt := 32) dX0_sail_22 (by decide) ?_
      refine GG.aload_n C dX0_sail_32 0 rfl ?_
      refine GG.iload_n C dX0_sail_33 1 rfl ?_
      obtain ⟨p6, hp6, hf⟩ := obd_some hf
      refine GG.c_X0_413 C rfl (gX0_sails hp6) c3 ⟨Nat.le_of_ble_eq_true rfl, Nat.le_of_ble_eq_true rfl⟩ ⟨Nat.le_of_ble_eq_true rfl, Nat.le_of_ble_eq_true rfl⟩ (Nat.le_of_ble_eq_true rfl) dX0_sail_34 ?_
      refine GG.aload_n C dX0_sail_37 0 rfl ?_
      obtain ⟨c7, hf⟩ := gd_some hf
      obtain ⟨r8, hr8, hf⟩ := obd_some hf
      refine GG.gx_X0_84 C rfl c7 hr8 dX0_sail_38 ?_
      refine GG.iconst C dX0_sail_41 ic_0 ?_
      refine GG.aload_n C dX0_sail_42 0 rfl ?_
      refine GG.gx_X0_341 C rfl c7 dX0_sail_43 ?_
      obtain ⟨M9, hM9, hf⟩ := obd_some hf
      refine GG.iast C hM9 dX0_sail_46 ?_
      refine GG.aload_n C dX0_sail_47 0 rfl ?_
      obtain ⟨c10, hf⟩ := gd_some hf
      obtain ⟨r11, hr11, hf⟩ := obd_some hf
      refine GG.gx_X0_84 C rfl c10 hr11 dX0_sail_48 ?_
      refine GG.iconst C dX0_sail_51 ic_1 ?_
      refine GG.aload_n C dX0_sail_52 0 rfl ?_
      refine GG.gx_X0_397 C rfl c10 dX0_sail_53 ?_
      obtain ⟨M12, hM12, hf⟩ := obd_some hf
      refine GG.iast C hM12 dX0_sail_56 ?_
      refine GG.aload_n C dX0_sail_57 0 rfl ?_
      obtain ⟨c13, hf⟩ := gd_some hf
      obtain ⟨r14, hr14, hf⟩ := obd_some hf
      refine GG.gx_X0_84 C rfl c13 hr14 dX0_sail_58 ?_
      refine GG.iconst C dX0_sail_61 ic_2 ?_
      refine GG.aload_n C dX0_sail_62 0 rfl ?_
      refine GG.gx_X0_344 C rfl c13 dX0_sail_63 ?_
      obtain ⟨M15, hM15, hf⟩ := obd_some hf
      refine GG.iast C hM15 dX0_sail_66 ?_
      refine GG.aload_n C dX0_sail_67 0 rfl ?_
      obtain ⟨c16, hf⟩ := gd_some hf
      obtain ⟨r17, hr17, hf⟩ := obd_some hf
      refine GG.gx_X0_84 C rfl c16 hr17 dX0_sail_68 ?_
      refine GG.iconst C dX0_sail_71 ic_3 ?_
      refine GG.aload_n C dX0_sail_72 0 rfl ?_
      refine GG.gx_X0_372 C rfl c16 dX0_sail_73 ?_
      obtain ⟨M18, hM18, hf⟩ := obd_some hf
      refine GG.iast C hM18 dX0_sail_76 ?_
      refine GG.aload_n C dX0_sail_77 0 rfl ?_
      obtain ⟨c19, hf⟩ := gd_some hf
      obtain ⟨r20, hr20, hf⟩ := obd_some hf
      refine GG.gx_X0_84 C rfl c19 hr20 dX0_sail_78 ?_
      refine GG.iconst C dX0_sail_81 ic_4 ?_
      refine GG.aload_n C dX0_sail_82 0 rfl ?_
      refine GG.gx_X0_335 C rfl c19 dX0_sail_83 ?_
      obtain ⟨M21, hM21, hf⟩ := obd_some hf
      refine GG.iast C hM21 dX0_sail_86 ?_
      refine GG.aload_n C dX0_sail_87 0 rfl ?_
      refine GG.iconst C dX0_sail_88 ic_1 ?_
      obtain ⟨c22, hf⟩ := gd_some hf
      refine GG.px_X0_416 C rfl c22 (by decide) (by decide) dX0_sail_89 ?_
      refine GG.topM fun M23 hM23 => ?_
      have hf := ltb_s hM23 hf
      refine GG.aload_n C dX0_sail_92 0 rfl ?_
      refine GG.aload_n C dX0_sail_93 0 rfl ?_
      obtain ⟨c24, hf⟩ := gd_some hf
      refine GG.gx_X0_400 C rfl c24 dX0_sail_94 ?_
      obtain ⟨p25, hp25, hf⟩ := obd_some hf
      refine GG.c_X0_197 C rfl (gX0_gives hp25) c24 ⟨Nat.le_of_ble_eq_true rfl, Nat.le_of_ble_eq_true rfl⟩ ⟨Nat.le_of_ble_eq_true rfl, Nat.le_of_ble_eq_true rfl⟩ (Nat.le_of_ble_eq_true rfl) dX0_sail_97 ?_
      have hf := Option.some.inj hf
      subst hf
      exact GG.iret C E dX0_sail_100
  · have hf := if_t hf c2
    refine GG.aload_n C dX0_sail_12 0 rfl ?_
    refine GG.iconst C dX0_sail_13 ic_5 ?_
    obtain ⟨c27, hf⟩ := gd_some hf
    obtain ⟨p28, hp28, hf⟩ := obd_some hf
    refine GG.c_X0_124 C rfl (gX0_none hp28) c27 ⟨Nat.le_of_ble_eq_true rfl, Nat.le_of_ble_eq_true rfl⟩ ⟨Nat.le_of_ble_eq_true rfl, Nat.le_of_ble_eq_true rfl⟩ (Nat.le_of_ble_eq_true rfl) dX0_sail_14 ?_
    have hf := Option.some.inj hf
    subst hf
    exact GG.iret C E dX0_sail_17
theorem gX0_sailed {K : gK} {S : Option MS}  {M : XS} {a0 : Nat} {a1 : Int32} {o : (Int32 × XS)} (hf : fX0_sailed M a0 a1 = some o) : gMet K yX0_sailed cX0_sailed 2 (some Jvm.ClassFile.FieldType.int) rX0_sailed [(.ref a0), (.int a1)] M S (some (.int o.1)) o.2 S := by
  refine gMet.of pn_X0 (Nat.le_of_ble_eq_true rfl) fun X C E => ?_
  unfold fX0_sailed at hf
  show GG K X 2 0 0 M S 0 [(0, .ref a0), (1, .int a1)] []
  refine GG.iload_n C dX0_sailed_0 1 rfl ?_
  refine GG.if_lt C (tgt := 9) dX0_sailed_1 (by decide) (fun c1 => ?_) (fun c1 => ?_)
  · have hf := if_t hf c1
    refine GG.aload_n C dX0_sailed_9 0 rfl ?_
    refine GG.iconst C dX0_sailed_10 ic_5 ?_
    obtain ⟨c2, hf⟩ := gd_some hf
    obtain ⟨p3, hp3, hf⟩ := obd_some hf
    refine GG.c_X0_124 C rfl (gX0_none hp3) c2 ⟨Nat.le_of_ble_eq_true rfl, Nat.le_of_ble_eq_true rfl⟩ ⟨Nat.le_of_ble_eq_true rfl, Nat.le_of_ble_eq_true rfl⟩ (Nat.le_of_ble_eq_true rfl) dX0_sailed_11 ?_
    have hf := Option.some.inj hf
    subst hf
    exact GG.iret C E dX0_sailed_14
  · have hf := if_f hf c1
    refine GG.iload_n C dX0_sailed_4 1 rfl ?_
    refine GG.iconst C dX0_sailed_5 ic_4 ?_
    refine GG.icmp_le C (tgt := 15) dX0_sailed_6 (by decide) (fun c4 => ?_) (fun c4 => ?_)
    · have hf := if_t hf c4
      refine GG.aload_n C dX0_sailed_15 0 rfl ?_
      obtain ⟨c5, hf⟩ := gd_some hf
      refine GG.gx_X0_416 C rfl c5 dX0_sailed_16 ?_
      refine GG.if_eq C (tgt := 35) dX0_sailed_19 (by decide) (fun c6 => ?_) (fun c6 => ?_)
      · have hf := if_t hf c6
        refine GG.aload_n C dX0_sailed_35 0 rfl ?_
        refine GG.bipush C dX0_sailed_36 bp_8 ?_
        obtain ⟨p7, hp7, hf⟩ := obd_some hf
        refine GG.c_X0_124 C rfl (gX0_none hp7) c5 ⟨Nat.le_of_ble_eq_true rfl, Nat.le_of_ble_eq_true rfl⟩ ⟨Nat.le_of_ble_eq_true rfl, Nat.le_of_ble_eq_true rfl⟩ (Nat.le_of_ble_eq_true rfl) dX0_sailed_38 ?_
        have hf := Option.some.inj hf
        subst hf
        exact GG.iret C E dX0_sailed_41
      · have hf := if_f hf c6
        refine GG.aload_n C dX0_sailed_22 0 rfl ?_
        refine GG.aload_n C dX0_sailed_23 0 rfl ?_
        obtain ⟨r8, hr8, hf⟩ := obd_some hf
        refine GG.gx_X0_84 C rfl c5 hr8 dX0_sailed_24 ?_
        refine GG.iload_n C dX0_sailed_27 1 rfl ?_
        obtain ⟨v9, hv9, hf⟩ := obd_some hf
        refine GG.iald C hv9 dX0_sailed_28 ?_
        obtain ⟨p10, hp10, hf⟩ := obd_some hf
        refine GG.c_X0_197 C rfl (gX0_gives hp10) c5 ⟨Nat.le_of_ble_eq_true rfl, Nat.le_of_ble_eq_true rfl⟩ ⟨Nat.le_of_ble_eq_true rfl, Nat.le_of_ble_eq_true rfl⟩ (Nat.le_of_ble_eq_true rfl) dX0_sailed_29 ?_
        refine GG.goto C (tgt := 41) dX0_sailed_32 (by decide) ?_
        have hf := Option.some.inj hf
        subst hf
        exact GG.iret C E dX0_sailed_41
    · have hf := if_f hf c4
      refine GG.aload_n C dX0_sailed_9 0 rfl ?_
      refine GG.iconst C dX0_sailed_10 ic_5 ?_
      obtain ⟨c11, hf⟩ := gd_some hf
      obtain ⟨p12, hp12, hf⟩ := obd_some hf
      refine GG.c_X0_124 C rfl (gX0_none hp12) c11 ⟨Nat.le_of_ble_eq_true rfl, Nat.le_of_ble_eq_true rfl⟩ ⟨Nat.le_of_ble_eq_true rfl, Nat.le_of_ble_eq_true rfl⟩ (Nat.le_of_ble_eq_true rfl) dX0_sailed_11 ?_
      have hf := Option.some.inj hf
      subst hf
      exact GG.iret C E dX0_sailed_14
theorem gX0_agreed_151 {K : gK} {X : gX} {S : Option MS} (C : gC K X cX0_agreed 7 yX0_agreed (some Jvm.ClassFile.FieldType.int) rX0_agreed)  {o : (Int32 × XS)} (E : gE K X (some (.int o.1)) o.2 S rX0_agreed.cells rX0_agreed.slots) {k74 : XS → Nat → Int32 → Int32 → Int32 → Int32 → Option (Int32 × XS)} (hk74 : ∀ (M : XS) (a0 : Nat) (a1 : Int32) (a2 : Int32) (a3 : Int32) (a4 : Int32), k74 M a0 a1 a2 a3 a4 = some o → GG K X 7 0 0 M S 74 [(0, .ref a0), (1, .int a1), (2, .int a2), (3, .int a3), (4, .int a4)] []) :
    ∀ (M : XS) (a0 : Nat) (a1 : Int32) (a2 : Int32) (a4 : Int32) (s0 : Int32) (s1 : Int32), fX0_agreed_151 k74 M a0 a1 a2 a4 s0 s1 = some o → GG K X 7 0 0 M S 151 [(0, .ref a0), (1, .int a1), (2, .int a2), (4, .int a4)] [.int s0, .int s1] := by
  intro M a0 a1 a2 a4 s0 s1 hf
  unfold fX0_agreed_151 at hf
  refine GG.iadd C dX0_agreed_151 ?_
  refine GG.topi fun x35 hx35 => ?_
  have hf := ltb_s hx35 hf
  refine GG.istore_n C (lv' := [(3, .int x35), (0, .ref a0), (1, .int a1), (2, .int a2), (4, .int a4)]) dX0_agreed_152 (by decide) rfl ?_
  refine GG.aload_n C dX0_agreed_153 1 rfl ?_
  obtain ⟨c36, hf⟩ := gd_some hf
  obtain ⟨r37, hr37, hf⟩ := obd_some hf
  refine GG.gx_X0_87 C rfl c36 hr37 dX0_agreed_154 ?_
  refine GG.iconst C dX0_agreed_157 ic_0 ?_
  refine GG.aload_n C dX0_agreed_158 1 rfl ?_
  obtain ⟨r38, hr38, hf⟩ := obd_some hf
  refine GG.gx_X0_27 C rfl c36 hr38 dX0_agreed_159 ?_
  refine GG.iconst C dX0_agreed_162 ic_0 ?_
  refine GG.iconst C dX0_agreed_163 ic_4 ?_
  obtain ⟨M39, hM39, hf⟩ := obd_some hf
  refine GG.acopy C hM39 q626 (Nat.le_of_ble_eq_true rfl) (Nat.le_of_ble_eq_true rfl) dX0_agreed_164 ?_
  refine GG.iinc C (v := (a4 + (nI 1))) (lv' := [(4, .int (a4 + (nI 1))), (3, .int x35), (0, .ref a0), (1, .int a1), (2, .int a2)]) dX0_agreed_167 4 rfl (congrArg (a4 + ·) ic_1) (by decide) rfl ?_
  refine GG.goto C (tgt := 74) dX0_agreed_170 (by decide) ?_
  refine GG.sub [2, 3, 4, 1, 0] rfl ?_
  exact hk74 _ _ _ _ _ _ hf
theorem gX0_agreed_94 {K : gK} {X : gX} {S : Option MS} (C : gC K X cX0_agreed 7 yX0_agreed (some Jvm.ClassFile.FieldType.int) rX0_agreed)  {o : (Int32 × XS)} (E : gE K X (some (.int o.1)) o.2 S rX0_agreed.cells rX0_agreed.slots) {k74 : XS → Nat → Int32 → Int32 → Int32 → Int32 → Option (Int32 × XS)} (hk74 : ∀ (M : XS) (a0 : Nat) (a1 : Int32) (a2 : Int32) (a3 : Int32) (a4 : Int32), k74 M a0 a1 a2 a3 a4 = some o → GG K X 7 0 0 M S 74 [(0, .ref a0), (1, .int a1), (2, .int a2), (3, .int a3), (4, .int a4)] []) :
    ∀ (n : Nat) (M : XS) (a0 : Nat) (a1 : Int32) (a2 : Int32) (a3 : Int32) (a4 : Int32) (a5 : Int32) (a6 : Int32), fX0_agreed_94 k74 n M a0 a1 a2 a3 a4 a5 a6 = some o → GG K X 7 0 0 M S 94 [(0, .ref a0), (1, .int a1), (2, .int a2), (3, .int a3), (4, .int a4), (5, .int a5), (6, .int a6)] [] := by
  intro n
  induction n with
  | zero => intro M a0 a1 a2 a3 a4 a5 a6 hf; cases hf
  | succ n ih =>
    intro M a0 a1 a2 a3 a4 a5 a6 hf
    rw [fX0_agreed_94] at hf
    refine GG.iload C dX0_agreed_94 6 rfl ?_
    refine GG.aload_n C dX0_agreed_96 0 rfl ?_
    obtain ⟨c24, hf⟩ := gd_some hf
    obtain ⟨r25, hr25, hf⟩ := obd_some hf
    refine GG.gx_X0_37 C rfl c24 hr25 dX0_agreed_97 ?_
    obtain ⟨c26, hf⟩ := gd_some hf
    refine GG.gx_X0_152 C rfl c26 dX0_agreed_100 ?_
    refine GG.icmp_ge C (tgt := 140) dX0_agreed_103 (by decide) (fun c27 => ?_) (fun c27 => ?_)
    · have hf := if_t hf c27
      refine GG.iload_n C dX0_agreed_140 3 rfl ?_
      refine GG.iload C dX0_agreed_141 5 rfl ?_
      refine GG.if_eq C (tgt := 150) dX0_agreed_143 (by decide) (fun c28 => ?_) (fun c28 => ?_)
      · have hf := if_t hf c28
        refine GG.iconst C dX0_agreed_150 ic_0 ?_
        refine GG.sub [0, 1, 2, 4] rfl ?_
        exact gX0_agreed_151 C E (hk74 := hk74) _ _ _ _ _ _ _ hf
      · have hf := if_f hf c28
        refine GG.iconst C dX0_agreed_146 ic_1 ?_
        refine GG.goto C (tgt := 151) dX0_agreed_147 (by decide) ?_
        refine GG.sub [0, 1, 2, 4] rfl ?_
        exact gX0_agreed_151 C E (hk74 := hk74) _ _ _ _ _ _ _ hf
    · have hf := if_f hf c27
      refine GG.iload C dX0_agreed_106 5 rfl ?_
      refine GG.if_eq C (tgt := 131) dX0_agreed_108 (by decide) (fun c29 => ?_) (fun c29 => ?_)
      · have hf := if_t hf c29
        refine GG.iconst C dX0_agreed_131 ic_0 ?_
        refine GG.istore C (lv' := [(5, .int (nI 0)), (0, .ref a0), (1, .int a1), (2, .int a2), (3, .int a3), (4, .int a4), (6, .int a6)]) dX0_agreed_132 (by decide) rfl ?_
        refine GG.iinc C (v := (a6 + (nI 1))) (lv' := [(6, .int (a6 + (nI 1))), (5, .int (nI 0)), (0, .ref a0), (1, .int a1), (2, .int a2), (3, .int a3), (4, .int a4)]) dX0_agreed_134 6 rfl (congrArg (a6 + ·) ic_1) (by decide) rfl ?_
        refine GG.goto C (tgt := 94) dX0_agreed_137 (by decide) ?_
        refine GG.sub [2, 3, 4, 5, 6, 1, 0] rfl ?_
        exact ih _ _ _ _ _ _ _ _ hf
      · have hf := if_f hf c29
        refine GG.aload_n C dX0_agreed_111 0 rfl ?_
        obtain ⟨r30, hr30, hf⟩ := obd_some hf
        refine GG.gx_X0_27 C rfl c24 hr30 dX0_agreed_112 ?_
        refine GG.iload C dX0_agreed_115 6 rfl ?_
        obtain ⟨v31, hv31, hf⟩ := obd_some hf
        refine GG.iald C hv31 dX0_agreed_117 ?_
        refine GG.aload_n C dX0_agreed_118 0 rfl ?_
        obtain ⟨r32, hr32, hf⟩ := obd_some hf
        refine GG.gx_X0_27 C rfl c24 hr32 dX0_agreed_119 ?_
        refine GG.iconst C dX0_agreed_122 ic_0 ?_
        obtain ⟨v33, hv33, hf⟩ := obd_some hf
        refine GG.iald C hv33 dX0_agreed_123 ?_
        refine GG.icmp_ne C (tgt := 131) dX0_agreed_124 (by decide) (fun c34 => ?_) (fun c34 => ?_)
        · have hf := if_f hf c34
          refine GG.iconst C dX0_agreed_131 ic_0 ?_
          refine GG.istore C (lv' := [(5, .int (nI 0)), (0, .ref a0), (1, .int a1), (2, .int a2), (3, .int a3), (4, .int a4), (6, .int a6)]) dX0_agreed_132 (by decide) rfl ?_
          refine GG.iinc C (v := (a6 + (nI 1))) (lv' := [(6, .int (a6 + (nI 1))), (5, .int (nI 0)), (0, .ref a0), (1, .int a1), (2, .int a2), (3, .int a3), (4, .int a4)]) dX0_agreed_134 6 rfl (congrArg (a6 + ·) ic_1) (by decide) rfl ?_
          refine GG.goto C (tgt := 94) dX0_agreed_137 (by decide) ?_
          refine GG.sub [2, 3, 4, 5, 6, 1, 0] rfl ?_
          exact ih _ _ _ _ _ _ _ _ hf
        · have hf := if_t hf c34
          refine GG.iconst C dX0_agreed_127 ic_1 ?_
          refine GG.goto C (tgt := 132) dX0_agreed_128 (by decide) ?_
          refine GG.istore C (lv' := [(5, .int (nI 1)), (0, .ref a0), (1, .int a1), (2, .int a2), (3, .int a3), (4, .int a4), (6, .int a6)]) dX0_agreed_132 (by decide) rfl ?_
          refine GG.iinc C (v := (a6 + (nI 1))) (lv' := [(6, .int (a6 + (nI 1))), (5, .int (nI 1)), (0, .ref a0), (1, .int a1), (2, .int a2), (3, .int a3), (4, .int a4)]) dX0_agreed_134 6 rfl (congrArg (a6 + ·) ic_1) (by decide) rfl ?_
          refine GG.goto C (tgt := 94) dX0_agreed_137 (by decide) ?_
          refine GG.sub [2, 3, 4, 5, 6, 1, 0] rfl ?_
          exact ih _ _ _ _ _ _ _ _ hf
theorem gX0_agreed_74 {K : gK} {X : gX} {S : Option MS} (C : gC K X cX0_agreed 7 yX0_agreed (some Jvm.ClassFile.FieldType.int) rX0_agreed)  {o : (Int32 × XS)} (E : gE K X (some (.int o.1)) o.2 S rX0_agreed.cells rX0_agreed.slots)   :
    ∀ (n : Nat) (M : XS) (a0 : Nat) (a1 : Int32) (a2 : Int32) (a3 : Int32) (a4 : Int32), fX0_agreed_74  n M a0 a1 a2 a3 a4 = some o → GG K X 7 0 0 M S 74 [(0, .ref a0), (1, .int a1), (2, .int a2), (3, .int a3), (4, .int a4)] [] := by
  intro n
  induction n with
  | zero => intro M a0 a1 a2 a3 a4 hf; cases hf
  | succ n ih =>
    intro M a0 a1 a2 a3 a4 hf
    rw [fX0_agreed_74] at hf
    refine GG.iload C dX0_agreed_74 4 rfl ?_
    refine GG.iload_n C dX0_agreed_76 2 rfl ?_
    refine GG.icmp_ge C (tgt := 173) dX0_agreed_77 (by decide) (fun c19 => ?_) (fun c19 => ?_)
    · have hf := if_t hf c19
      refine GG.aload_n C dX0_agreed_173 0 rfl ?_
      refine GG.iload_n C dX0_agreed_174 3 rfl ?_
      obtain ⟨c20, hf⟩ := gd_some hf
      obtain ⟨p21, hp21, hf⟩ := obd_some hf
      refine GG.c_X0_197 C rfl (gX0_gives hp21) c20 ⟨Nat.le_of_ble_eq_true rfl, Nat.le_of_ble_eq_true rfl⟩ ⟨Nat.le_of_ble_eq_true rfl, Nat.le_of_ble_eq_true rfl⟩ (Nat.le_of_ble_eq_true rfl) dX0_agreed_175 ?_
      have hf := Option.some.inj hf
      subst hf
      exact GG.iret C E dX0_agreed_178
    · have hf := if_f hf c19
      refine GG.aload_n C dX0_agreed_80 0 rfl ?_
      refine GG.iload_n C dX0_agreed_81 1 rfl ?_
      refine GG.iload C dX0_agreed_82 4 rfl ?_
      refine GG.iadd C dX0_agreed_84 ?_
      obtain ⟨c22, hf⟩ := gd_some hf
      obtain ⟨p23, hp23, hf⟩ := obd_some hf
      refine GG.c_X0_413 C rfl (gX0_sails hp23) c22 ⟨Nat.le_of_ble_eq_true rfl, Nat.le_of_ble_eq_true rfl⟩ ⟨Nat.le_of_ble_eq_true rfl, Nat.le_of_ble_eq_true rfl⟩ (Nat.le_of_ble_eq_true rfl) dX0_agreed_85 ?_
      refine GG.iconst C dX0_agreed_88 ic_1 ?_
      refine GG.istore C (lv' := [(5, .int (nI 1)), (0, .ref a0), (1, .int a1), (2, .int a2), (3, .int a3), (4, .int a4)]) dX0_agreed_89 (by decide) rfl ?_
      refine GG.iconst C dX0_agreed_91 ic_1 ?_
      refine GG.istore C (lv' := [(6, .int (nI 1)), (5, .int (nI 1)), (0, .ref a0), (1, .int a1), (2, .int a2), (3, .int a3), (4, .int a4)]) dX0_agreed_92 (by decide) rfl ?_
      refine GG.sub [2, 3, 4, 5, 6, 1, 0] rfl ?_
      exact gX0_agreed_94 C E (hk74 := ih) FU _ _ _ _ _ _ _ _ hf
theorem gX0_agreed {K : gK} {S : Option MS}  {M : XS} {a0 : Nat} {a1 : Int32} {a2 : Int32} {o : (Int32 × XS)} (hf : fX0_agreed M a0 a1 a2 = some o) : gMet K yX0_agreed cX0_agreed 7 (some Jvm.ClassFile.FieldType.int) rX0_agreed [(.ref a0), (.int a1), (.int a2)] M S (some (.int o.1)) o.2 S := by
  refine gMet.of pn_X0 (Nat.le_of_ble_eq_true rfl) fun X C E => ?_
  unfold fX0_agreed at hf
  show GG K X 7 0 0 M S 0 [(0, .ref a0), (1, .int a1), (2, .int a2)] []
  refine GG.iload_n C dX0_agreed_0 1 rfl ?_
  refine GG.i2l C dX0_agreed_1 ?_
  refine GG.lconst C dX0_agreed_2 lc_0 ?_
  refine GG.ldc2 C (v := (lN 9999)) q1361 dX0_agreed_3 ?_
  obtain ⟨v1, hv1, hf⟩ := obd_some hf
  refine GG.c_X0_317 C rfl (gX0_isFrom hv1) ⟨Nat.le_of_ble_eq_true rfl, Nat.le_of_ble_eq_true rfl⟩ ⟨Nat.le_of_ble_eq_true rfl, Nat.le_of_ble_eq_true rfl⟩ (Nat.le_of_ble_eq_true rfl) dX0_agreed_6 ?_
  refine GG.if_eq C (tgt := 35) dX0_agreed_9 (by decide) (fun c2 => ?_) (fun c2 => ?_)
  · have hf := if_t hf c2
    refine GG.aload_n C dX0_agreed_35 0 rfl ?_
    refine GG.iconst C dX0_agreed_36 ic_5 ?_
    obtain ⟨c3, hf⟩ := gd_some hf
    obtain ⟨p4, hp4, hf⟩ := obd_some hf
    refine GG.c_X0_124 C rfl (gX0_none hp4) c3 ⟨Nat.le_of_ble_eq_true rfl, Nat.le_of_ble_eq_true rfl⟩ ⟨Nat.le_of_ble_eq_true rfl, Nat.le_of_ble_eq_true rfl⟩ (Nat.le_of_ble_eq_true rfl) dX0_agreed_37 ?_
    have hf := Option.some.inj hf
    subst hf
    exact GG.iret C E dX0_agreed_40
  · have hf := if_f hf c2
    refine GG.iload_n C dX0_agreed_12 2 rfl ?_
    refine GG.i2l C dX0_agreed_13 ?_
    refine GG.lconst C dX0_agreed_14 lc_1 ?_
    refine GG.ldc2 C (v := (lN 30)) q1406 dX0_agreed_15 ?_
    obtain ⟨v5, hv5, hf⟩ := obd_some hf
    refine GG.c_X0_317 C rfl (gX0_isFrom hv5) ⟨Nat.le_of_ble_eq_true rfl, Nat.le_of_ble_eq_true rfl⟩ ⟨Nat.le_of_ble_eq_true rfl, Nat.le_of_ble_eq_true rfl⟩ (Nat.le_of_ble_eq_true rfl) dX0_agreed_18 ?_
    refine GG.if_eq C (tgt := 35) dX0_agreed_21 (by decide) (fun c6 => ?_) (fun c6 => ?_)
    · have hf := if_t hf c6
      refine GG.aload_n C dX0_agreed_35 0 rfl ?_
      refine GG.iconst C dX0_agreed_36 ic_5 ?_
      obtain ⟨c7, hf⟩ := gd_some hf
      obtain ⟨p8, hp8, hf⟩ := obd_some hf
      refine GG.c_X0_124 C rfl (gX0_none hp8) c7 ⟨Nat.le_of_ble_eq_true rfl, Nat.le_of_ble_eq_true rfl⟩ ⟨Nat.le_of_ble_eq_true rfl, Nat.le_of_ble_eq_true rfl⟩ (Nat.le_of_ble_eq_true rfl) dX0_agreed_37 ?_
      have hf := Option.some.inj hf
      subst hf
      exact GG.iret C E dX0_agreed_40
    · have hf := if_f hf c6
      refine GG.iload_n C dX0_agreed_24 1 rfl ?_
      refine GG.iload_n C dX0_agreed_25 2 rfl ?_
      refine GG.iadd C dX0_agreed_26 ?_
      refine GG.iconst C dX0_agreed_27 ic_1 ?_
      refine GG.isub C dX0_agreed_28 ?_
      refine GG.sipush C dX0_agreed_29 sp_9999 ?_
      refine GG.icmp_le C (tgt := 41) dX0_agreed_32 (by decide) (fun c9 => ?_) (fun c9 => ?_)
      · have hf := if_t hf c9
        refine GG.aload_n C dX0_agreed_41 0 rfl ?_
        obtain ⟨c10, hf⟩ := gd_some hf
        refine GG.gx_X0_190o C rfl c10 dX0_agreed_42 ?_
        cases c16 : (xR M 5 a0) with
        | none =>
          rw [c16] at hf
          refine GG.ifnonnullN C dX0_agreed_45 ?_
          refine GG.aload_n C dX0_agreed_48 0 rfl ?_
          refine GG.bipush C dX0_agreed_49 bp_8 ?_
          obtain ⟨p12, hp12, hf⟩ := obd_some hf
          refine GG.c_X0_124 C rfl (gX0_none hp12) c10 ⟨Nat.le_of_ble_eq_true rfl, Nat.le_of_ble_eq_true rfl⟩ ⟨Nat.le_of_ble_eq_true rfl, Nat.le_of_ble_eq_true rfl⟩ (Nat.le_of_ble_eq_true rfl) dX0_agreed_51 ?_
          have hf := Option.some.inj hf
          subst hf
          exact GG.iret C E dX0_agreed_54
        | some r11 =>
          rw [c16] at hf
          refine GG.ifnonnull C (tgt := 55) dX0_agreed_45 (by decide) ?_
          refine GG.aload_n C dX0_agreed_55 0 rfl ?_
          obtain ⟨r13, hr13, hf⟩ := obd_some hf
          refine GG.gx_X0_27 C rfl c10 hr13 dX0_agreed_56 ?_
          refine GG.iconst C dX0_agreed_59 ic_0 ?_
          refine GG.aload_n C dX0_agreed_60 0 rfl ?_
          obtain ⟨r14, hr14, hf⟩ := obd_some hf
          refine GG.gx_X0_87 C rfl c10 hr14 dX0_agreed_61 ?_
          refine GG.iconst C dX0_agreed_64 ic_0 ?_
          refine GG.iconst C dX0_agreed_65 ic_4 ?_
          obtain ⟨M15, hM15, hf⟩ := obd_some hf
          refine GG.acopy C hM15 q626 (Nat.le_of_ble_eq_true rfl) (Nat.le_of_ble_eq_true rfl) dX0_agreed_66 ?_
          refine GG.iconst C dX0_agreed_69 ic_0 ?_
          refine GG.istore_n C (lv' := [(3, .int (nI 0)), (0, .ref a0), (1, .int a1), (2, .int a2)]) dX0_agreed_70 (by decide) rfl ?_
          refine GG.iconst C dX0_agreed_71 ic_0 ?_
          refine GG.istore C (lv' := [(4, .int (nI 0)), (3, .int (nI 0)), (0, .ref a0), (1, .int a1), (2, .int a2)]) dX0_agreed_72 (by decide) rfl ?_
          refine GG.sub [2, 3, 4, 1, 0] rfl ?_
          exact gX0_agreed_74 C E  FU _ _ _ _ _ _ hf
      · have hf := if_f hf c9
        refine GG.aload_n C dX0_agreed_35 0 rfl ?_
        refine GG.iconst C dX0_agreed_36 ic_5 ?_
        obtain ⟨c17, hf⟩ := gd_some hf
        obtain ⟨p18, hp18, hf⟩ := obd_some hf
        refine GG.c_X0_124 C rfl (gX0_none hp18) c17 ⟨Nat.le_of_ble_eq_true rfl, Nat.le_of_ble_eq_true rfl⟩ ⟨Nat.le_of_ble_eq_true rfl, Nat.le_of_ble_eq_true rfl⟩ (Nat.le_of_ble_eq_true rfl) dX0_agreed_37 ?_
        have hf := Option.some.inj hf
        subst hf
        exact GG.iret C E dX0_agreed_40
theorem gX13_init {K : gK} {S : Option MS}  {M : XS} {a0 : Nat} {o : XS} (hf : fX13_init M a0 = some o) : gMet K yX13_init cX13_init 1 none rX13_init [(.ref a0)] M S none o S := by
  refine gMet.of pn_X13 (Nat.le_of_ble_eq_true rfl) fun X C E => ?_
  unfold fX13_init at hf
  show GG K X 1 0 0 M S 0 [(0, .ref a0)] []
  refine GG.aload_n C dX13_init_0 0 rfl ?_
  refine GG.objInit C q1424 q179 q180 (Nat.le_of_ble_eq_true rfl) (Nat.le_of_ble_eq_true rfl) dX13_init_1 ?_
  refine GG.aload_n C dX13_init_4 0 rfl ?_
  refine GG.iconst C dX13_init_5 ic_4 ?_
  refine GG.newA C 0 (by decide) rfl q338 (N := 4) (by decide) (by decide) (by decide) (Nat.le_of_ble_eq_true rfl) (Nat.le_of_ble_eq_true rfl) dX13_init_6 ?_
  refine GG.topx fun z1 hz1 => ?_
  have hf := ltb_s hz1 hf
  refine GG.topM fun M2 hM2 => ?_
  have hf := ltb_s hM2 hf
  obtain ⟨c3, hf⟩ := gd_some hf
  refine GG.px_X13_9 C rfl rfl c3 (x := (some z1)) rfl dX13_init_8 ?_
  refine GG.topM fun M4 hM4 => ?_
  have hf := ltb_s hM4 hf
  refine GG.aload_n C dX13_init_11 0 rfl ?_
  refine GG.bipush C dX13_init_12 bp_16 ?_
  refine GG.newA C 0 (by decide) rfl q338 (N := 16) (by decide) (by decide) (by decide) (Nat.le_of_ble_eq_true rfl) (Nat.le_of_ble_eq_true rfl) dX13_init_14 ?_
  refine GG.topx fun z5 hz5 => ?_
  have hf := ltb_s hz5 hf
  refine GG.topM fun M6 hM6 => ?_
  have hf := ltb_s hM6 hf
  obtain ⟨c7, hf⟩ := gd_some hf
  refine GG.px_X13_15 C rfl rfl c7 (x := (some z5)) rfl dX13_init_16 ?_
  refine GG.topM fun M8 hM8 => ?_
  have hf := ltb_s hM8 hf
  have hf := Option.some.inj hf
  subst hf
  refine GG.widen (cs' := rX13_init.cells) (sl' := rX13_init.slots) (Nat.le_of_ble_eq_true rfl) (Nat.le_of_ble_eq_true rfl) ?_
  exact GG.vret C E dX13_init_19
theorem gX0_mark {K : gK} {S : Option MS}  {M : XS} {a0 : Nat} {o : (Int32 × XS)} (hf : fX0_mark M a0 = some o) : gMet K yX0_mark cX0_mark 2 (some Jvm.ClassFile.FieldType.int) rX0_mark [(.ref a0)] M S (some (.int o.1)) o.2 S := by
  refine gMet.of pn_X0 (Nat.le_of_ble_eq_true rfl) fun X C E => ?_
  unfold fX0_mark at hf
  show GG K X 2 0 0 M S 0 [(0, .ref a0)] []
  refine GG.aload_n C dX0_mark_0 0 rfl ?_
  obtain ⟨c1, hf⟩ := gd_some hf
  refine GG.gx_X0_423 C rfl c1 dX0_mark_1 ?_
  refine GG.iconst C dX0_mark_4 ic_3 ?_
  refine GG.icmp_ne C (tgt := 15) dX0_mark_5 (by decide) (fun c2 => ?_) (fun c2 => ?_)
  · have hf := if_f hf c2
    refine GG.new C (ci := 10) (r := (RX13, TX13, 6)) rfl q369 q1420 q172 (Nat.le_of_ble_eq_true rfl) (Nat.le_of_ble_eq_true rfl) dX0_mark_15 ?_
    refine GG.topx fun z3 hz3 => ?_
    have hf := ltb_s hz3 hf
    refine GG.topM fun M4 hM4 => ?_
    have hf := ltb_s hM4 hf
    refine GG.dup C dX0_mark_18 rfl ?_
    obtain ⟨p5, hp5, hf⟩ := obd_some hf
    refine GG.c_X0_426 C rfl (gX13_init hp5) ⟨Nat.le_of_ble_eq_true rfl, Nat.le_of_ble_eq_true rfl⟩ ⟨Nat.le_of_ble_eq_true rfl, Nat.le_of_ble_eq_true rfl⟩ (Nat.le_of_ble_eq_true rfl) dX0_mark_19 ?_
    refine GG.astore_n C (lv' := [(1, .ref z3), (0, .ref a0)]) dX0_mark_22 (by decide) rfl ?_
    refine GG.aload_n C dX0_mark_23 1 rfl ?_
    obtain ⟨c6, hf⟩ := gd_some hf
    obtain ⟨r7, hr7, hf⟩ := obd_some hf
    refine GG.gx_X0_27 C rfl c6 hr7 dX0_mark_24 ?_
    refine GG.iconst C dX0_mark_27 ic_0 ?_
    refine GG.aload_n C dX0_mark_28 0 rfl ?_
    obtain ⟨c8, hf⟩ := gd_some hf
    obtain ⟨r9, hr9, hf⟩ := obd_some hf
    refine GG.gx_X0_427 C rfl c8 hr9 dX0_mark_29 ?_
    refine GG.iconst C dX0_mark_32 ic_0 ?_
    refine GG.iconst C dX0_mark_33 ic_4 ?_
    obtain ⟨M10, hM10, hf⟩ := obd_some hf
    refine GG.acopy C hM10 q626 (Nat.le_of_ble_eq_true rfl) (Nat.le_of_ble_eq_true rfl) dX0_mark_34 ?_
    refine GG.aload_n C dX0_mark_37 1 rfl ?_
    obtain ⟨c11, hf⟩ := gd_some hf
    obtain ⟨r12, hr12, hf⟩ := obd_some hf
    refine GG.gx_X0_31 C rfl c11 hr12 dX0_mark_38 ?_
    refine GG.iconst C dX0_mark_41 ic_0 ?_
    refine GG.aload_n C dX0_mark_42 0 rfl ?_
    obtain ⟨c13, hf⟩ := gd_some hf
    obtain ⟨r14, hr14, hf⟩ := obd_some hf
    refine GG.gx_X0_428 C rfl c13 hr14 dX0_mark_43 ?_
    refine GG.iconst C dX0_mark_46 ic_0 ?_
    refine GG.bipush C dX0_mark_47 bp_16 ?_
    obtain ⟨M15, hM15, hf⟩ := obd_some hf
    refine GG.acopy C hM15 q626 (Nat.le_of_ble_eq_true rfl) (Nat.le_of_ble_eq_true rfl) dX0_mark_49 ?_
    refine GG.aload_n C dX0_mark_52 0 rfl ?_
    refine GG.aload_n C dX0_mark_53 1 rfl ?_
    obtain ⟨c16, hf⟩ := gd_some hf
    refine GG.gx_X0_37o C rfl c16 dX0_mark_54 ?_
    obtain ⟨c17, hf⟩ := gd_some hf
    refine GG.px_X0_429 C rfl c17 (x := (xR M15 4 a0)) rfl dX0_mark_57 ?_
    refine GG.topM fun M18 hM18 => ?_
    have hf := ltb_s hM18 hf
    refine GG.aload_n C dX0_mark_60 0 rfl ?_
    refine GG.aload_n C dX0_mark_61 1 rfl ?_
    obtain ⟨c19, hf⟩ := gd_some hf
    refine GG.gx_X0_190o C rfl c19 dX0_mark_62 ?_
    obtain ⟨c20, hf⟩ := gd_some hf
    refine GG.px_X0_430 C rfl c20 (x := (xR M18 5 a0)) rfl dX0_mark_65 ?_
    refine GG.topM fun M21 hM21 => ?_
    have hf := ltb_s hM21 hf
    refine GG.aload_n C dX0_mark_68 0 rfl ?_
    refine GG.aload_n C dX0_mark_69 1 rfl ?_
    obtain ⟨c22, hf⟩ := gd_some hf
    refine GG.gx_X0_194 C rfl c22 dX0_mark_70 ?_
    obtain ⟨c23, hf⟩ := gd_some hf
    refine GG.px_X0_431 C rfl c23 dX0_mark_73 ?_
    refine GG.topM fun M24 hM24 => ?_
    have hf := ltb_s hM24 hf
    refine GG.aload_n C dX0_mark_76 0 rfl ?_
    refine GG.aload_n C dX0_mark_77 1 rfl ?_
    obtain ⟨c25, hf⟩ := gd_some hf
    refine GG.gx_X0_187 C rfl c25 dX0_mark_78 ?_
    obtain ⟨c26, hf⟩ := gd_some hf
    refine GG.px_X0_432 C rfl c26 dX0_mark_81 ?_
    refine GG.topM fun M27 hM27 => ?_
    have hf := ltb_s hM27 hf
    refine GG.aload_n C dX0_mark_84 1 rfl ?_
    obtain ⟨c28, hf⟩ := gd_some hf
    obtain ⟨r29, hr29, hf⟩ := obd_some hf
    refine GG.gx_X0_92 C rfl c28 hr29 dX0_mark_85 ?_
    refine GG.aload_n C dX0_mark_88 1 rfl ?_
    refine GG.gx_X0_423 C rfl c28 dX0_mark_89 ?_
    refine GG.aload_n C dX0_mark_92 0 rfl ?_
    obtain ⟨c30, hf⟩ := gd_some hf
    obtain ⟨M31, hM31, hf⟩ := obd_some hf
    refine GG.aast C 3 (r := (RX13, TX13, 6)) hM31 rfl (fun _ _ _ => rfl) (by decide) c30 rfl (fun comp c0 e1 e2 => vb_asgS comp c0 e1 e2) dX0_mark_93 ?_
    refine GG.aload_n C dX0_mark_94 1 rfl ?_
    refine GG.dup C dX0_mark_95 rfl ?_
    obtain ⟨c32, hf⟩ := gd_some hf
    refine GG.gx_X0_423 C rfl c32 dX0_mark_96 ?_
    refine GG.iconst C dX0_mark_99 ic_1 ?_
    refine GG.iadd C dX0_mark_100 ?_
    refine GG.px_X0_423 C rfl c32 dX0_mark_101 ?_
    refine GG.topM fun M33 hM33 => ?_
    have hf := ltb_s hM33 hf
    refine GG.aload_n C dX0_mark_104 1 rfl ?_
    refine GG.aload_n C dX0_mark_105 1 rfl ?_
    obtain ⟨c34, hf⟩ := gd_some hf
    refine GG.gx_X0_423 C rfl c34 dX0_mark_106 ?_
    obtain ⟨p35, hp35, hf⟩ := obd_some hf
    refine GG.c_X0_197 C rfl (gX0_gives hp35) c34 ⟨Nat.le_of_ble_eq_true rfl, Nat.le_of_ble_eq_true rfl⟩ ⟨Nat.le_of_ble_eq_true rfl, Nat.le_of_ble_eq_true rfl⟩ (Nat.le_of_ble_eq_true rfl) dX0_mark_109 ?_
    have hf := Option.some.inj hf
    subst hf
    refine GG.widen (cs' := rX0_mark.cells) (sl' := rX0_mark.slots) (Nat.le_of_ble_eq_true rfl) (Nat.le_of_ble_eq_true rfl) ?_
    exact GG.iret C E dX0_mark_112
  · have hf := if_t hf c2
    refine GG.aload_n C dX0_mark_8 0 rfl ?_
    refine GG.bipush C dX0_mark_9 bp_7 ?_
    obtain ⟨p36, hp36, hf⟩ := obd_some hf
    refine GG.c_X0_124 C rfl (gX0_none hp36) c1 ⟨Nat.le_of_ble_eq_true rfl, Nat.le_of_ble_eq_true rfl⟩ ⟨Nat.le_of_ble_eq_true rfl, Nat.le_of_ble_eq_true rfl⟩ (Nat.le_of_ble_eq_true rfl) dX0_mark_11 ?_
    have hf := Option.some.inj hf
    subst hf
    refine GG.widen (cs' := rX0_mark.cells) (sl' := rX0_mark.slots) (Nat.le_of_ble_eq_true rfl) (Nat.le_of_ble_eq_true rfl) ?_
    exact GG.iret C E dX0_mark_14
theorem gX0_back {K : gK} {S : Option MS}  {M : XS} {a0 : Nat} {o : (Int32 × XS)} (hf : fX0_back M a0 = some o) : gMet K yX0_back cX0_back 2 (some Jvm.ClassFile.FieldType.int) rX0_back [(.ref a0)] M S (some (.int o.1)) o.2 S := by
  refine gMet.of pn_X0 (Nat.le_of_ble_eq_true rfl) fun X C E => ?_
  unfold fX0_back at hf
  show GG K X 2 0 0 M S 0 [(0, .ref a0)] []
  refine GG.aload_n C dX0_back_0 0 rfl ?_
  obtain ⟨c1, hf⟩ := gd_some hf
  refine GG.gx_X0_423 C rfl c1 dX0_back_1 ?_
  refine GG.if_ne C (tgt := 14) dX0_back_4 (by decide) (fun c2 => ?_) (fun c2 => ?_)
  · have hf := if_f hf c2
    refine GG.aload_n C dX0_back_14 0 rfl ?_
    refine GG.dup C dX0_back_15 rfl ?_
    refine GG.gx_X0_423 C rfl c1 dX0_back_16 ?_
    refine GG.iconst C dX0_back_19 ic_1 ?_
    refine GG.isub C dX0_back_20 ?_
    refine GG.px_X0_423 C rfl c1 dX0_back_21 ?_
    refine GG.topM fun M3 hM3 => ?_
    have hf := ltb_s hM3 hf
    refine GG.aload_n C dX0_back_24 0 rfl ?_
    obtain ⟨c4, hf⟩ := gd_some hf
    obtain ⟨r5, hr5, hf⟩ := obd_some hf
    refine GG.gx_X0_92 C rfl c4 hr5 dX0_back_25 ?_
    refine GG.aload_n C dX0_back_28 0 rfl ?_
    refine GG.gx_X0_423 C rfl c4 dX0_back_29 ?_
    obtain ⟨r6, hr6, hf⟩ := obd_some hf
    refine GG.aald C 3 hr6 (by decide) dX0_back_32 ?_
    refine GG.astore_n C (lv' := [(1, .ref r6), (0, .ref a0)]) dX0_back_33 (by decide) rfl ?_
    refine GG.aload_n C dX0_back_34 0 rfl ?_
    obtain ⟨c7, hf⟩ := gd_some hf
    obtain ⟨r8, hr8, hf⟩ := obd_some hf
    refine GG.gx_X0_427 C rfl c7 hr8 dX0_back_35 ?_
    refine GG.iconst C dX0_back_38 ic_0 ?_
    refine GG.aload_n C dX0_back_39 1 rfl ?_
    obtain ⟨r9, hr9, hf⟩ := obd_some hf
    refine GG.gx_X0_27 C rfl c4 hr9 dX0_back_40 ?_
    refine GG.iconst C dX0_back_43 ic_0 ?_
    refine GG.iconst C dX0_back_44 ic_4 ?_
    obtain ⟨M10, hM10, hf⟩ := obd_some hf
    refine GG.acopy C hM10 q626 (Nat.le_of_ble_eq_true rfl) (Nat.le_of_ble_eq_true rfl) dX0_back_45 ?_
    refine GG.aload_n C dX0_back_48 0 rfl ?_
    obtain ⟨c11, hf⟩ := gd_some hf
    obtain ⟨r12, hr12, hf⟩ := obd_some hf
    refine GG.gx_X0_428 C rfl c11 hr12 dX0_back_49 ?_
    refine GG.iconst C dX0_back_52 ic_0 ?_
    refine GG.aload_n C dX0_back_53 1 rfl ?_
    obtain ⟨c13, hf⟩ := gd_some hf
    obtain ⟨r14, hr14, hf⟩ := obd_some hf
    refine GG.gx_X0_31 C rfl c13 hr14 dX0_back_54 ?_
    refine GG.iconst C dX0_back_57 ic_0 ?_
    refine GG.bipush C dX0_back_58 bp_16 ?_
    obtain ⟨M15, hM15, hf⟩ := obd_some hf
    refine GG.acopy C hM15 q626 (Nat.le_of_ble_eq_true rfl) (Nat.le_of_ble_eq_true rfl) dX0_back_60 ?_
    refine GG.aload_n C dX0_back_63 1 rfl ?_
    refine GG.aload_n C dX0_back_64 0 rfl ?_
    obtain ⟨c16, hf⟩ := gd_some hf
    refine GG.gx_X0_429o C rfl c16 dX0_back_65 ?_
    obtain ⟨c17, hf⟩ := gd_some hf
    refine GG.px_X0_37 C rfl c17 (x := (xR M15 107 r6)) rfl dX0_back_68 ?_
    refine GG.topM fun M18 hM18 => ?_
    have hf := ltb_s hM18 hf
    refine GG.aload_n C dX0_back_71 1 rfl ?_
    refine GG.aload_n C dX0_back_72 0 rfl ?_
    obtain ⟨c19, hf⟩ := gd_some hf
    refine GG.gx_X0_430o C rfl c19 dX0_back_73 ?_
    obtain ⟨c20, hf⟩ := gd_some hf
    refine GG.px_X0_190 C rfl c20 (x := (xR M18 108 r6)) rfl dX0_back_76 ?_
    refine GG.topM fun M21 hM21 => ?_
    have hf := ltb_s hM21 hf
    refine GG.aload_n C dX0_back_79 1 rfl ?_
    refine GG.aload_n C dX0_back_80 0 rfl ?_
    obtain ⟨c22, hf⟩ := gd_some hf
    refine GG.gx_X0_431 C rfl c22 dX0_back_81 ?_
    obtain ⟨c23, hf⟩ := gd_some hf
    refine GG.px_X0_194 C rfl c23 dX0_back_84 ?_
    refine GG.topM fun M24 hM24 => ?_
    have hf := ltb_s hM24 hf
    refine GG.aload_n C dX0_back_87 1 rfl ?_
    refine GG.aload_n C dX0_back_88 0 rfl ?_
    obtain ⟨c25, hf⟩ := gd_some hf
    refine GG.gx_X0_432 C rfl c25 dX0_back_89 ?_
    obtain ⟨c26, hf⟩ := gd_some hf
    refine GG.px_X0_187 C rfl c26 dX0_back_92 ?_
    refine GG.topM fun M27 hM27 => ?_
    have hf := ltb_s hM27 hf
    refine GG.aload_n C dX0_back_95 1 rfl ?_
    refine GG.aload_n C dX0_back_96 1 rfl ?_
    obtain ⟨c28, hf⟩ := gd_some hf
    refine GG.gx_X0_423 C rfl c28 dX0_back_97 ?_
    obtain ⟨p29, hp29, hf⟩ := obd_some hf
    refine GG.c_X0_197 C rfl (gX0_gives hp29) c28 ⟨Nat.le_of_ble_eq_true rfl, Nat.le_of_ble_eq_true rfl⟩ ⟨Nat.le_of_ble_eq_true rfl, Nat.le_of_ble_eq_true rfl⟩ (Nat.le_of_ble_eq_true rfl) dX0_back_100 ?_
    have hf := Option.some.inj hf
    subst hf
    exact GG.iret C E dX0_back_103
  · have hf := if_t hf c2
    refine GG.aload_n C dX0_back_7 0 rfl ?_
    refine GG.bipush C dX0_back_8 bp_8 ?_
    obtain ⟨p30, hp30, hf⟩ := obd_some hf
    refine GG.c_X0_124 C rfl (gX0_none hp30) c1 ⟨Nat.le_of_ble_eq_true rfl, Nat.le_of_ble_eq_true rfl⟩ ⟨Nat.le_of_ble_eq_true rfl, Nat.le_of_ble_eq_true rfl⟩ (Nat.le_of_ble_eq_true rfl) dX0_back_10 ?_
    have hf := Option.some.inj hf
    subst hf
    exact GG.iret C E dX0_back_13
theorem gX1_init {K : gK} {S : Option MS}  {M : XS} {a0 : Nat} {a1 : Nat} {a2 : Nat} {a3 : Nat} {a4 : Nat} {o : XS} (hf : fX1_init M a0 a1 a2 a3 a4 = some o) : gMet K yX1_init cX1_init 5 none rX1_init [(.ref a0), (.ref a1), (.ref (kS K a2)), (.ref (kS K a3)), (.ref a4)] M S none o S := by
  refine gMet.of pn_X1 (Nat.le_of_ble_eq_true rfl) fun X C E => ?_
  unfold fX1_init at hf
  show GG K X 5 0 0 M S 0 [(0, .ref a0), (1, .ref a1), (2, .ref (kS K a2)), (3, .ref (kS K a3)), (4, .ref a4)] []
  refine GG.aload_n C dX1_init_0 0 rfl ?_
  refine GG.objInit C q281 q179 q180 (Nat.le_of_ble_eq_true rfl) (Nat.le_of_ble_eq_true rfl) dX1_init_1 ?_
  refine GG.aload_n C dX1_init_4 0 rfl ?_
  refine GG.aload_n C dX1_init_5 1 rfl ?_
  obtain ⟨c1, hf⟩ := gd_some hf
  refine GG.px_X1_9 C rfl rfl c1 (x := (some a1)) rfl dX1_init_6 ?_
  refine GG.topM fun M2 hM2 => ?_
  have hf := ltb_s hM2 hf
  refine GG.aload_n C dX1_init_9 0 rfl ?_
  refine GG.aload_n C dX1_init_10 2 rfl ?_
  obtain ⟨c3, hf⟩ := gd_some hf
  refine GG.px_X1_15 C rfl rfl c3 (x := (some a2)) rfl dX1_init_11 ?_
  refine GG.topM fun M4 hM4 => ?_
  have hf := ltb_s hM4 hf
  refine GG.aload_n C dX1_init_14 0 rfl ?_
  refine GG.aload_n C dX1_init_15 3 rfl ?_
  obtain ⟨c5, hf⟩ := gd_some hf
  refine GG.px_X1_19 C rfl rfl c5 (x := (some a3)) rfl dX1_init_16 ?_
  refine GG.topM fun M6 hM6 => ?_
  have hf := ltb_s hM6 hf
  refine GG.aload_n C dX1_init_19 0 rfl ?_
  refine GG.aload C dX1_init_20 4 rfl ?_
  obtain ⟨c7, hf⟩ := gd_some hf
  refine GG.px_X1_22 C rfl rfl c7 (x := (some a4)) rfl dX1_init_22 ?_
  refine GG.topM fun M8 hM8 => ?_
  have hf := ltb_s hM8 hf
  have hf := Option.some.inj hf
  subst hf
  exact GG.vret C E dX1_init_25
theorem gX1_at {K : gK} {S : Option MS}  {M : XS} {a0 : Nat} {a1 : Int32} {o : Int32} (hf : fX1_at M a0 a1 = some o) : gMet K yX1_at cX1_at 2 (some Jvm.ClassFile.FieldType.int) rX1_at [(.ref a0), (.int a1)] M S (some (.int o)) M S := by
  refine gMet.of pn_X1 (Nat.le_of_ble_eq_true rfl) fun X C E => ?_
  unfold fX1_at at hf
  show GG K X 2 0 0 M S 0 [(0, .ref a0), (1, .int a1)] []
  refine GG.iload_n C dX1_at_0 1 rfl ?_
  refine GG.aload_n C dX1_at_1 0 rfl ?_
  obtain ⟨c1, hf⟩ := gd_some hf
  refine GG.gx_X1_26 C rfl c1 dX1_at_2 ?_
  refine GG.icmp_ge C (tgt := 21) dX1_at_5 (by decide) (fun c2 => ?_) (fun c2 => ?_)
  · have hf := if_t hf c2
    refine GG.iconst C dX1_at_21 ic_m1 ?_
    have hf := Option.some.inj hf
    subst hf
    exact GG.iret C E dX1_at_22
  · have hf := if_f hf c2
    refine GG.aload_n C dX1_at_8 0 rfl ?_
    obtain ⟨r3, hr3, hf⟩ := obd_some hf
    refine GG.gx_X1_9 C rfl c1 hr3 dX1_at_9 ?_
    refine GG.iload_n C dX1_at_12 1 rfl ?_
    obtain ⟨v4, hv4, hf⟩ := obd_some hf
    refine GG.bald C hv4 dX1_at_13 ?_
    refine GG.sipush C dX1_at_14 sp_255 ?_
    refine GG.iand C dX1_at_17 ?_
    refine GG.goto C (tgt := 22) dX1_at_18 (by decide) ?_
    have hf := Option.some.inj hf
    subst hf
    exact GG.iret C E dX1_at_22
theorem gX1_isSmall {K : gK} {M : XS} {S : Option MS}  {a0 : Int32} {o : Int32} (hf : fX1_isSmall a0 = some o) : gMet K yX1_isSmall cX1_isSmall 1 (some Jvm.ClassFile.FieldType.boolean) rX1_isSmall [(.int a0)] M S (some (.int o)) M S := by
  refine gMet.of pn_X1 (Nat.le_of_ble_eq_true rfl) fun X C E => ?_
  unfold fX1_isSmall at hf
  show GG K X 1 0 0 M S 0 [(0, .int a0)] []
  refine GG.iload_n C dX1_isSmall_0 0 rfl ?_
  refine GG.bipush C dX1_isSmall_1 bp_97 ?_
  refine GG.icmp_lt C (tgt := 16) dX1_isSmall_3 (by decide) (fun c1 => ?_) (fun c1 => ?_)
  · have hf := if_t hf c1
    refine GG.iconst C dX1_isSmall_16 ic_0 ?_
    have hf := Option.some.inj hf
    subst hf
    exact GG.zret C zb_0 E dX1_isSmall_17
  · have hf := if_f hf c1
    refine GG.iload_n C dX1_isSmall_6 0 rfl ?_
    refine GG.bipush C dX1_isSmall_7 bp_122 ?_
    refine GG.icmp_gt C (tgt := 16) dX1_isSmall_9 (by decide) (fun c2 => ?_) (fun c2 => ?_)
    · have hf := if_t hf c2
      refine GG.iconst C dX1_isSmall_16 ic_0 ?_
      have hf := Option.some.inj hf
      subst hf
      exact GG.zret C zb_0 E dX1_isSmall_17
    · have hf := if_f hf c2
      refine GG.iconst C dX1_isSmall_12 ic_1 ?_
      refine GG.goto C (tgt := 17) dX1_isSmall_13 (by decide) ?_
      have hf := Option.some.inj hf
      subst hf
      exact GG.zret C zb_1 E dX1_isSmall_17
theorem gX1_isDigit {K : gK} {M : XS} {S : Option MS}  {a0 : Int32} {o : Int32} (hf : fX1_isDigit a0 = some o) : gMet K yX1_isDigit cX1_isDigit 1 (some Jvm.ClassFile.FieldType.boolean) rX1_isDigit [(.int a0)] M S (some (.int o)) M S := by
  refine gMet.of pn_X1 (Nat.le_of_ble_eq_true rfl) fun X C E => ?_
  unfold fX1_isDigit at hf
  show GG K X 1 0 0 M S 0 [(0, .int a0)] []
  refine GG.iload_n C dX1_isDigit_0 0 rfl ?_
  refine GG.bipush C dX1_isDigit_1 bp_48 ?_
  refine GG.icmp_lt C (tgt := 16) dX1_isDigit_3 (by decide) (fun c1 => ?_) (fun c1 => ?_)
  · have hf := if_t hf c1
    refine GG.iconst C dX1_isDigit_16 ic_0 ?_
    have hf := Option.some.inj hf
    subst hf
    exact GG.zret C zb_0 E dX1_isDigit_17
  · have hf := if_f hf c1
    refine GG.iload_n C dX1_isDigit_6 0 rfl ?_
    refine GG.bipush C dX1_isDigit_7 bp_57 ?_
    refine GG.icmp_gt C (tgt := 16) dX1_isDigit_9 (by decide) (fun c2 => ?_) (fun c2 => ?_)
    · have hf := if_t hf c2
      refine GG.iconst C dX1_isDigit_16 ic_0 ?_
      have hf := Option.some.inj hf
      subst hf
      exact GG.zret C zb_0 E dX1_isDigit_17
    · have hf := if_f hf c2
      refine GG.iconst C dX1_isDigit_12 ic_1 ?_
      refine GG.goto C (tgt := 17) dX1_isDigit_13 (by decide) ?_
      have hf := Option.some.inj hf
      subst hf
      exact GG.zret C zb_1 E dX1_isDigit_17
theorem gX1_isSign_2 {K : gK} {X : gX} {S : Option MS} {M : XS} (C : gC K X cX1_isSign 3 yX1_isSign (some Jvm.ClassFile.FieldType.boolean) rX1_isSign)  {o : Int32} (E : gE K X (some (.int o)) M S rX1_isSign.cells rX1_isSign.slots)   :
    ∀ (n : Nat) (a0 : Nat) (a1 : Int32) (a2 : Int32), fX1_isSign_2 M n a0 a1 a2 = some o → GG K X 3 0 0 M S 2 [(0, .ref a0), (1, .int a1), (2, .int a2)] [] := by
  intro n
  induction n with
  | zero => intro a0 a1 a2 hf; cases hf
  | succ n ih =>
    intro a0 a1 a2 hf
    rw [fX1_isSign_2] at hf
    refine GG.iload_n C dX1_isSign_2 2 rfl ?_
    refine GG.aload_n C dX1_isSign_3 0 rfl ?_
    obtain ⟨c1, hf⟩ := gd_some hf
    obtain ⟨r2, hr2, hf⟩ := obd_some hf
    refine GG.gx_X1_19 C rfl c1 hr2 dX1_isSign_4 ?_
    obtain ⟨v3, hv3, hf⟩ := obd_some hf
    refine GG.slen C q680 hv3 (Nat.le_of_ble_eq_true rfl) (Nat.le_of_ble_eq_true rfl) (Nat.le_of_ble_eq_true rfl) (Nat.le_of_ble_eq_true rfl) (Nat.le_of_ble_eq_true rfl) dX1_isSign_7 ?_
    refine GG.icmp_ge C (tgt := 33) dX1_isSign_10 (by decide) (fun c4 => ?_) (fun c4 => ?_)
    · have hf := if_t hf c4
      refine GG.iconst C dX1_isSign_33 ic_0 ?_
      have hf := Option.some.inj hf
      subst hf
      exact GG.zret C zb_0 E dX1_isSign_34
    · have hf := if_f hf c4
      refine GG.aload_n C dX1_isSign_13 0 rfl ?_
      obtain ⟨r5, hr5, hf⟩ := obd_some hf
      refine GG.gx_X1_19 C rfl c1 hr5 dX1_isSign_14 ?_
      refine GG.iload_n C dX1_isSign_17 2 rfl ?_
      obtain ⟨v6, hv6, hf⟩ := obd_some hf
      refine GG.sat C q690 hv6 (Nat.le_of_ble_eq_true rfl) (Nat.le_of_ble_eq_true rfl) (Nat.le_of_ble_eq_true rfl) (Nat.le_of_ble_eq_true rfl) (Nat.le_of_ble_eq_true rfl) dX1_isSign_18 ?_
      refine GG.iload_n C dX1_isSign_21 1 rfl ?_
      refine GG.icmp_ne C (tgt := 27) dX1_isSign_22 (by decide) (fun c7 => ?_) (fun c7 => ?_)
      · have hf := if_f hf c7
        refine GG.iinc C (v := (a2 + (nI 1))) (lv' := [(2, .int (a2 + (nI 1))), (0, .ref a0), (1, .int a1)]) dX1_isSign_27 2 rfl (congrArg (a2 + ·) ic_1) (by decide) rfl ?_
        refine GG.goto C (tgt := 2) dX1_isSign_30 (by decide) ?_
        refine GG.sub [1, 2, 0] rfl ?_
        exact ih _ _ _ hf
      · have hf := if_t hf c7
        refine GG.iconst C dX1_isSign_25 ic_1 ?_
        have hf := Option.some.inj hf
        subst hf
        exact GG.zret C zb_1 E dX1_isSign_26
theorem gX1_isSign {K : gK} {S : Option MS}  {M : XS} {a0 : Nat} {a1 : Int32} {o : Int32} (hf : fX1_isSign M a0 a1 = some o) : gMet K yX1_isSign cX1_isSign 3 (some Jvm.ClassFile.FieldType.boolean) rX1_isSign [(.ref a0), (.int a1)] M S (some (.int o)) M S := by
  refine gMet.of pn_X1 (Nat.le_of_ble_eq_true rfl) fun X C E => ?_
  unfold fX1_isSign at hf
  show GG K X 3 0 0 M S 0 [(0, .ref a0), (1, .int a1)] []
  refine GG.iconst C dX1_isSign_0 ic_0 ?_
  refine GG.istore_n C (lv' := [(2, .int (nI 0)), (0, .ref a0), (1, .int a1)]) dX1_isSign_1 (by decide) rfl ?_
  refine GG.sub [1, 2, 0] rfl ?_
  exact gX1_isSign_2 C E  FU _ _ _ hf
theorem gX1_next_81 {K : gK} {X : gX} {S : Option MS} (C : gC K X cX1_next 2 yX1_next none rX1_next)  {o : XS} (E : gE K X none o S rX1_next.cells rX1_next.slots)   :
    ∀ (n : Nat) (M : XS) (a0 : Nat), fX1_next_81  n M a0 = some o → GG K X 2 0 0 M S 81 [(0, .ref a0)] [] := by
  intro n
  induction n with
  | zero => intro M a0 hf; cases hf
  | succ n ih =>
    intro M a0 hf
    rw [fX1_next_81] at hf
    refine GG.aload_n C dX1_next_81 0 rfl ?_
    refine GG.aload_n C dX1_next_82 0 rfl ?_
    obtain ⟨c32, hf⟩ := gd_some hf
    refine GG.gx_X1_30 C rfl c32 dX1_next_83 ?_
    obtain ⟨c33, hf⟩ := gd_some hf
    obtain ⟨v34, hv34, hf⟩ := obd_some hf
    refine GG.c_X1_46 C rfl (gX1_at hv34) c33 ⟨Nat.le_of_ble_eq_true rfl, Nat.le_of_ble_eq_true rfl⟩ ⟨Nat.le_of_ble_eq_true rfl, Nat.le_of_ble_eq_true rfl⟩ (Nat.le_of_ble_eq_true rfl) dX1_next_86 ?_
    obtain ⟨v35, hv35, hf⟩ := obd_some hf
    refine GG.c_X1_59 C rfl (gX1_isSmall hv35) ⟨Nat.le_of_ble_eq_true rfl, Nat.le_of_ble_eq_true rfl⟩ ⟨Nat.le_of_ble_eq_true rfl, Nat.le_of_ble_eq_true rfl⟩ (Nat.le_of_ble_eq_true rfl) dX1_next_89 ?_
    refine GG.if_eq C (tgt := 108) dX1_next_92 (by decide) (fun c36 => ?_) (fun c36 => ?_)
    · have hf := if_t hf c36
      refine GG.aload_n C dX1_next_108 0 rfl ?_
      refine GG.iconst C dX1_next_109 ic_2 ?_
      refine GG.px_X1_56 C rfl c32 dX1_next_110 ?_
      refine GG.topM fun M37 hM37 => ?_
      have hf := ltb_s hM37 hf
      refine GG.goto C (tgt := 235) dX1_next_113 (by decide) ?_
      have hf := Option.some.inj hf
      subst hf
      exact GG.vret C E dX1_next_235
    · have hf := if_f hf c36
      refine GG.aload_n C dX1_next_95 0 rfl ?_
      refine GG.dup C dX1_next_96 rfl ?_
      refine GG.gx_X1_30 C rfl c32 dX1_next_97 ?_
      refine GG.iconst C dX1_next_100 ic_1 ?_
      refine GG.iadd C dX1_next_101 ?_
      refine GG.px_X1_30 C rfl c32 dX1_next_102 ?_
      refine GG.topM fun M38 hM38 => ?_
      have hf := ltb_s hM38 hf
      refine GG.goto C (tgt := 81) dX1_next_105 (by decide) ?_
      refine GG.sub [0] rfl ?_
      exact ih _ _ hf
theorem gX1_next_128 {K : gK} {X : gX} {S : Option MS} (C : gC K X cX1_next 2 yX1_next none rX1_next)  {o : XS} (E : gE K X none o S rX1_next.cells rX1_next.slots)   :
    ∀ (n : Nat) (M : XS) (a0 : Nat), fX1_next_128  n M a0 = some o → GG K X 2 0 0 M S 128 [(0, .ref a0)] [] := by
  intro n
  induction n with
  | zero => intro M a0 hf; cases hf
  | succ n ih =>
    intro M a0 hf
    rw [fX1_next_128] at hf
    refine GG.aload_n C dX1_next_128 0 rfl ?_
    refine GG.aload_n C dX1_next_129 0 rfl ?_
    obtain ⟨c39, hf⟩ := gd_some hf
    refine GG.gx_X1_30 C rfl c39 dX1_next_130 ?_
    obtain ⟨c40, hf⟩ := gd_some hf
    obtain ⟨v41, hv41, hf⟩ := obd_some hf
    refine GG.c_X1_46 C rfl (gX1_at hv41) c40 ⟨Nat.le_of_ble_eq_true rfl, Nat.le_of_ble_eq_true rfl⟩ ⟨Nat.le_of_ble_eq_true rfl, Nat.le_of_ble_eq_true rfl⟩ (Nat.le_of_ble_eq_true rfl) dX1_next_133 ?_
    obtain ⟨v42, hv42, hf⟩ := obd_some hf
    refine GG.c_X1_63 C rfl (gX1_isDigit hv42) ⟨Nat.le_of_ble_eq_true rfl, Nat.le_of_ble_eq_true rfl⟩ ⟨Nat.le_of_ble_eq_true rfl, Nat.le_of_ble_eq_true rfl⟩ (Nat.le_of_ble_eq_true rfl) dX1_next_136 ?_
    refine GG.if_eq C (tgt := 183) dX1_next_139 (by decide) (fun c43 => ?_) (fun c43 => ?_)
    · have hf := if_t hf c43
      refine GG.aload_n C dX1_next_183 0 rfl ?_
      refine GG.aload_n C dX1_next_184 0 rfl ?_
      refine GG.gx_X1_30 C rfl c39 dX1_next_185 ?_
      refine GG.aload_n C dX1_next_188 0 rfl ?_
      refine GG.gx_X1_50 C rfl c39 dX1_next_189 ?_
      refine GG.isub C dX1_next_192 ?_
      refine GG.iconst C dX1_next_193 ic_4 ?_
      refine GG.icmp_le C (tgt := 201) dX1_next_194 (by decide) (fun c44 => ?_) (fun c44 => ?_)
      · have hf := if_t hf c44
        refine GG.iconst C dX1_next_201 ic_3 ?_
        refine GG.px_X1_56 C rfl c39 dX1_next_202 ?_
        refine GG.topM fun M45 hM45 => ?_
        have hf := ltb_s hM45 hf
        refine GG.goto C (tgt := 235) dX1_next_205 (by decide) ?_
        have hf := Option.some.inj hf
        subst hf
        exact GG.vret C E dX1_next_235
      · have hf := if_f hf c44
        refine GG.iconst C dX1_next_197 ic_1 ?_
        refine GG.goto C (tgt := 202) dX1_next_198 (by decide) ?_
        refine GG.px_X1_56 C rfl c39 dX1_next_202 ?_
        refine GG.topM fun M46 hM46 => ?_
        have hf := ltb_s hM46 hf
        refine GG.goto C (tgt := 235) dX1_next_205 (by decide) ?_
        have hf := Option.some.inj hf
        subst hf
        exact GG.vret C E dX1_next_235
    · have hf := if_f hf c43
      refine GG.aload_n C dX1_next_142 0 rfl ?_
      refine GG.ldc C (v := (nI 100000)) q672 dX1_next_143 ?_
      refine GG.bipush C dX1_next_145 bp_10 ?_
      refine GG.aload_n C dX1_next_147 0 rfl ?_
      refine GG.gx_X1_53 C rfl c39 dX1_next_148 ?_
      refine GG.imul C dX1_next_151 ?_
      refine GG.aload_n C dX1_next_152 0 rfl ?_
      refine GG.aload_n C dX1_next_153 0 rfl ?_
      refine GG.gx_X1_30 C rfl c39 dX1_next_154 ?_
      obtain ⟨v47, hv47, hf⟩ := obd_some hf
      refine GG.c_X1_46 C rfl (gX1_at hv47) c40 ⟨Nat.le_of_ble_eq_true rfl, Nat.le_of_ble_eq_true rfl⟩ ⟨Nat.le_of_ble_eq_true rfl, Nat.le_of_ble_eq_true rfl⟩ (Nat.le_of_ble_eq_true rfl) dX1_next_157 ?_
      refine GG.iadd C dX1_next_160 ?_
      refine GG.bipush C dX1_next_161 bp_48 ?_
      refine GG.isub C dX1_next_163 ?_
      refine GG.mmin C q673 (Nat.le_of_ble_eq_true rfl) (Nat.le_of_ble_eq_true rfl) (Nat.le_of_ble_eq_true rfl) (Nat.le_of_ble_eq_true rfl) dX1_next_164 ?_
      refine GG.px_X1_53 C rfl c39 dX1_next_167 ?_
      refine GG.topM fun M48 hM48 => ?_
      have hf := ltb_s hM48 hf
      refine GG.aload_n C dX1_next_170 0 rfl ?_
      refine GG.dup C dX1_next_171 rfl ?_
      obtain ⟨c49, hf⟩ := gd_some hf
      refine GG.gx_X1_30 C rfl c49 dX1_next_172 ?_
      refine GG.iconst C dX1_next_175 ic_1 ?_
      refine GG.iadd C dX1_next_176 ?_
      refine GG.px_X1_30 C rfl c49 dX1_next_177 ?_
      refine GG.topM fun M50 hM50 => ?_
      have hf := ltb_s hM50 hf
      refine GG.goto C (tgt := 128) dX1_next_180 (by decide) ?_
      refine GG.sub [0] rfl ?_
      exact ih _ _ hf
theorem gX1_next_0 {K : gK} {X : gX} {S : Option MS} (C : gC K X cX1_next 2 yX1_next none rX1_next)  {o : XS} (E : gE K X none o S rX1_next.cells rX1_next.slots)   :
    ∀ (n : Nat) (M : XS) (a0 : Nat), fX1_next_0  n M a0 = some o → GG K X 2 0 0 M S 0 [(0, .ref a0)] [] := by
  intro n
  induction n with
  | zero => intro M a0 hf; cases hf
  | succ n ih =>
    intro M a0 hf
    rw [fX1_next_0] at hf
    refine GG.aload_n C dX1_next_0 0 rfl ?_
    refine GG.aload_n C dX1_next_1 0 rfl ?_
    obtain ⟨c1, hf⟩ := gd_some hf
    refine GG.gx_X1_30 C rfl c1 dX1_next_2 ?_
    obtain ⟨c2, hf⟩ := gd_some hf
    obtain ⟨v3, hv3, hf⟩ := obd_some hf
    refine GG.c_X1_46 C rfl (gX1_at hv3) c2 ⟨Nat.le_of_ble_eq_true rfl, Nat.le_of_ble_eq_true rfl⟩ ⟨Nat.le_of_ble_eq_true rfl, Nat.le_of_ble_eq_true rfl⟩ (Nat.le_of_ble_eq_true rfl) dX1_next_5 ?_
    refine GG.bipush C dX1_next_8 bp_32 ?_
    refine GG.icmp_eq C (tgt := 26) dX1_next_10 (by decide) (fun c4 => ?_) (fun c4 => ?_)
    · have hf := if_t hf c4
      refine GG.aload_n C dX1_next_26 0 rfl ?_
      refine GG.dup C dX1_next_27 rfl ?_
      refine GG.gx_X1_30 C rfl c1 dX1_next_28 ?_
      refine GG.iconst C dX1_next_31 ic_1 ?_
      refine GG.iadd C dX1_next_32 ?_
      refine GG.px_X1_30 C rfl c1 dX1_next_33 ?_
      refine GG.topM fun M5 hM5 => ?_
      have hf := ltb_s hM5 hf
      refine GG.goto C (tgt := 0) dX1_next_36 (by decide) ?_
      refine GG.sub [0] rfl ?_
      exact ih _ _ hf
    · have hf := if_f hf c4
      refine GG.aload_n C dX1_next_13 0 rfl ?_
      refine GG.aload_n C dX1_next_14 0 rfl ?_
      refine GG.gx_X1_30 C rfl c1 dX1_next_15 ?_
      obtain ⟨v6, hv6, hf⟩ := obd_some hf
      refine GG.c_X1_46 C rfl (gX1_at hv6) c2 ⟨Nat.le_of_ble_eq_true rfl, Nat.le_of_ble_eq_true rfl⟩ ⟨Nat.le_of_ble_eq_true rfl, Nat.le_of_ble_eq_true rfl⟩ (Nat.le_of_ble_eq_true rfl) dX1_next_18 ?_
      refine GG.bipush C dX1_next_21 bp_10 ?_
      refine GG.icmp_ne C (tgt := 39) dX1_next_23 (by decide) (fun c7 => ?_) (fun c7 => ?_)
      · have hf := if_f hf c7
        refine GG.aload_n C dX1_next_39 0 rfl ?_
        refine GG.aload_n C dX1_next_40 0 rfl ?_
        refine GG.gx_X1_30 C rfl c1 dX1_next_41 ?_
        refine GG.px_X1_50 C rfl c1 dX1_next_44 ?_
        refine GG.topM fun M8 hM8 => ?_
        have hf := ltb_s hM8 hf
        refine GG.aload_n C dX1_next_47 0 rfl ?_
        refine GG.aload_n C dX1_next_48 0 rfl ?_
        obtain ⟨c9, hf⟩ := gd_some hf
        refine GG.gx_X1_30 C rfl c9 dX1_next_49 ?_
        obtain ⟨c10, hf⟩ := gd_some hf
        obtain ⟨v11, hv11, hf⟩ := obd_some hf
        refine GG.c_X1_46 C rfl (gX1_at hv11) c10 ⟨Nat.le_of_ble_eq_true rfl, Nat.le_of_ble_eq_true rfl⟩ ⟨Nat.le_of_ble_eq_true rfl, Nat.le_of_ble_eq_true rfl⟩ (Nat.le_of_ble_eq_true rfl) dX1_next_52 ?_
        refine GG.istore_n C (lv' := [(1, .int v11), (0, .ref a0)]) dX1_next_55 (by decide) rfl ?_
        refine GG.aload_n C dX1_next_56 1 rfl ?_
        refine GG.iload_n C dX1_next_57 0 rfl ?_
        refine GG.px_X1_53 C rfl c9 dX1_next_58 ?_
        refine GG.topM fun M12 hM12 => ?_
        have hf := ltb_s hM12 hf
        refine GG.iload_n C dX1_next_61 0 rfl ?_
        refine GG.iconst C dX1_next_62 ic_m1 ?_
        refine GG.icmp_ne C (tgt := 74) dX1_next_63 (by decide) (fun c13 => ?_) (fun c13 => ?_)
        · have hf := if_f hf c13
          refine GG.iload_n C dX1_next_74 0 rfl ?_
          obtain ⟨v14, hv14, hf⟩ := obd_some hf
          refine GG.c_X1_59 C rfl (gX1_isSmall hv14) ⟨Nat.le_of_ble_eq_true rfl, Nat.le_of_ble_eq_true rfl⟩ ⟨Nat.le_of_ble_eq_true rfl, Nat.le_of_ble_eq_true rfl⟩ (Nat.le_of_ble_eq_true rfl) dX1_next_75 ?_
          refine GG.if_eq C (tgt := 116) dX1_next_78 (by decide) (fun c15 => ?_) (fun c15 => ?_)
          · have hf := if_t hf c15
            refine GG.iload_n C dX1_next_116 0 rfl ?_
            obtain ⟨v16, hv16, hf⟩ := obd_some hf
            refine GG.c_X1_63 C rfl (gX1_isDigit hv16) ⟨Nat.le_of_ble_eq_true rfl, Nat.le_of_ble_eq_true rfl⟩ ⟨Nat.le_of_ble_eq_true rfl, Nat.le_of_ble_eq_true rfl⟩ (Nat.le_of_ble_eq_true rfl) dX1_next_117 ?_
            refine GG.if_eq C (tgt := 208) dX1_next_120 (by decide) (fun c17 => ?_) (fun c17 => ?_)
            · have hf := if_t hf c17
              refine GG.aload_n C dX1_next_208 1 rfl ?_
              refine GG.dup C dX1_next_209 rfl ?_
              obtain ⟨c18, hf⟩ := gd_some hf
              refine GG.gx_X1_30 C rfl c18 dX1_next_210 ?_
              refine GG.iconst C dX1_next_213 ic_1 ?_
              refine GG.iadd C dX1_next_214 ?_
              refine GG.px_X1_30 C rfl c18 dX1_next_215 ?_
              refine GG.topM fun M19 hM19 => ?_
              have hf := ltb_s hM19 hf
              refine GG.aload_n C dX1_next_218 1 rfl ?_
              refine GG.aload_n C dX1_next_219 1 rfl ?_
              refine GG.iload_n C dX1_next_220 0 rfl ?_
              obtain ⟨c20, hf⟩ := gd_some hf
              obtain ⟨v21, hv21, hf⟩ := obd_some hf
              refine GG.c_X1_73 C rfl (gX1_isSign hv21) c20 ⟨Nat.le_of_ble_eq_true rfl, Nat.le_of_ble_eq_true rfl⟩ ⟨Nat.le_of_ble_eq_true rfl, Nat.le_of_ble_eq_true rfl⟩ (Nat.le_of_ble_eq_true rfl) dX1_next_221 ?_
              refine GG.if_eq C (tgt := 231) dX1_next_224 (by decide) (fun c22 => ?_) (fun c22 => ?_)
              · have hf := if_t hf c22
                refine GG.iconst C dX1_next_231 ic_1 ?_
                obtain ⟨c23, hf⟩ := gd_some hf
                refine GG.px_X1_56 C rfl c23 dX1_next_232 ?_
                refine GG.topM fun M24 hM24 => ?_
                have hf := ltb_s hM24 hf
                have hf := Option.some.inj hf
                subst hf
                exact GG.vret C E dX1_next_235
              · have hf := if_f hf c22
                refine GG.iconst C dX1_next_227 ic_4 ?_
                refine GG.goto C (tgt := 232) dX1_next_228 (by decide) ?_
                obtain ⟨c25, hf⟩ := gd_some hf
                refine GG.px_X1_56 C rfl c25 dX1_next_232 ?_
                refine GG.topM fun M26 hM26 => ?_
                have hf := ltb_s hM26 hf
                have hf := Option.some.inj hf
                subst hf
                exact GG.vret C E dX1_next_235
            · have hf := if_f hf c17
              refine GG.aload_n C dX1_next_123 1 rfl ?_
              refine GG.iconst C dX1_next_124 ic_0 ?_
              obtain ⟨c27, hf⟩ := gd_some hf
              refine GG.px_X1_53 C rfl c27 dX1_next_125 ?_
              refine GG.topM fun M28 hM28 => ?_
              have hf := ltb_s hM28 hf
              refine GG.sub [1] rfl ?_
              exact gX1_next_128 C E  FU _ _ hf
          · have hf := if_f hf c15
            refine GG.sub [1] rfl ?_
            exact gX1_next_81 C E  FU _ _ hf
        · have hf := if_t hf c13
          refine GG.aload_n C dX1_next_66 1 rfl ?_
          refine GG.iconst C dX1_next_67 ic_0 ?_
          obtain ⟨c29, hf⟩ := gd_some hf
          refine GG.px_X1_56 C rfl c29 dX1_next_68 ?_
          refine GG.topM fun M30 hM30 => ?_
          have hf := ltb_s hM30 hf
          refine GG.goto C (tgt := 235) dX1_next_71 (by decide) ?_
          have hf := Option.some.inj hf
          subst hf
          exact GG.vret C E dX1_next_235
      · have hf := if_t hf c7
        refine GG.aload_n C dX1_next_26 0 rfl ?_
        refine GG.dup C dX1_next_27 rfl ?_
        refine GG.gx_X1_30 C rfl c1 dX1_next_28 ?_
        refine GG.iconst C dX1_next_31 ic_1 ?_
        refine GG.iadd C dX1_next_32 ?_
        refine GG.px_X1_30 C rfl c1 dX1_next_33 ?_
        refine GG.topM fun M31 hM31 => ?_
        have hf := ltb_s hM31 hf
        refine GG.goto C (tgt := 0) dX1_next_36 (by decide) ?_
        refine GG.sub [0] rfl ?_
        exact ih _ _ hf
theorem gX1_next {K : gK} {S : Option MS}  {M : XS} {a0 : Nat} {o : XS} (hf : fX1_next M a0 = some o) : gMet K yX1_next cX1_next 2 none rX1_next [(.ref a0)] M S none o S := by
  refine gMet.of pn_X1 (Nat.le_of_ble_eq_true rfl) fun X C E => ?_
  unfold fX1_next at hf
  show GG K X 2 0 0 M S 0 [(0, .ref a0)] []
  refine GG.sub [0] rfl ?_
  exact gX1_next_0 C E FU _ _ hf
theorem gX1_begin {K : gK} {S : Option MS}  {M : XS} {a0 : Nat} {a1 : Int32} {o : XS} (hf : fX1_begin M a0 a1 = some o) : gMet K yX1_begin cX1_begin 2 none rX1_begin [(.ref a0), (.int a1)] M S none o S := by
  refine gMet.of pn_X1 (Nat.le_of_ble_eq_true rfl) fun X C E => ?_
  unfold fX1_begin at hf
  show GG K X 2 0 0 M S 0 [(0, .ref a0), (1, .int a1)] []
  refine GG.aload_n C dX1_begin_0 0 rfl ?_
  refine GG.iload_n C dX1_begin_1 1 rfl ?_
  obtain ⟨c1, hf⟩ := gd_some hf
  refine GG.px_X1_26 C rfl c1 dX1_begin_2 ?_
  refine GG.topM fun M2 hM2 => ?_
  have hf := ltb_s hM2 hf
  refine GG.aload_n C dX1_begin_5 0 rfl ?_
  refine GG.iconst C dX1_begin_6 ic_0 ?_
  obtain ⟨c3, hf⟩ := gd_some hf
  refine GG.px_X1_30 C rfl c3 dX1_begin_7 ?_
  refine GG.topM fun M4 hM4 => ?_
  have hf := ltb_s hM4 hf
  refine GG.aload_n C dX1_begin_10 0 rfl ?_
  obtain ⟨c5, hf⟩ := gd_some hf
  obtain ⟨p6, hp6, hf⟩ := obd_some hf
  refine GG.c_X1_33 C rfl (gX1_next hp6) c5 ⟨Nat.le_of_ble_eq_true rfl, Nat.le_of_ble_eq_true rfl⟩ ⟨Nat.le_of_ble_eq_true rfl, Nat.le_of_ble_eq_true rfl⟩ (Nat.le_of_ble_eq_true rfl) dX1_begin_11 ?_
  have hf := Option.some.inj hf
  subst hf
  exact GG.vret C E dX1_begin_14
theorem gX1_isWord_20 {K : gK} {X : gX} {S : Option MS} {M : XS} (C : gC K X cX1_isWord 5 yX1_isWord (some Jvm.ClassFile.FieldType.boolean) rX1_isWord)  {o : Int32} (E : gE K X (some (.int o)) M S rX1_isWord.cells rX1_isWord.slots)   :
    ∀ (n : Nat) (a0 : Nat) (a1 : Nat) (a2 : Int32) (a3 : Int32) (a4 : Int32), fX1_isWord_20 M n a0 a1 a2 a3 a4 = some o → GG K X 5 0 0 M S 20 [(0, .ref a0), (1, .ref (kS K a1)), (2, .int a2), (3, .int a3), (4, .int a4)] [] := by
  intro n
  induction n with
  | zero => intro a0 a1 a2 a3 a4 hf; cases hf
  | succ n ih =>
    intro a0 a1 a2 a3 a4 hf
    rw [fX1_isWord_20] at hf
    refine GG.iload C dX1_isWord_20 4 rfl ?_
    refine GG.iload_n C dX1_isWord_22 3 rfl ?_
    refine GG.icmp_ge C (tgt := 56) dX1_isWord_23 (by decide) (fun c3 => ?_) (fun c3 => ?_)
    · have hf := if_t hf c3
      refine GG.iconst C dX1_isWord_56 ic_1 ?_
      have hf := Option.some.inj hf
      subst hf
      exact GG.zret C zb_1 E dX1_isWord_57
    · have hf := if_f hf c3
      refine GG.aload_n C dX1_isWord_26 1 rfl ?_
      refine GG.iload C dX1_isWord_27 4 rfl ?_
      obtain ⟨v4, hv4, hf⟩ := obd_some hf
      refine GG.sat C q690 hv4 (Nat.le_of_ble_eq_true rfl) (Nat.le_of_ble_eq_true rfl) (Nat.le_of_ble_eq_true rfl) (Nat.le_of_ble_eq_true rfl) (Nat.le_of_ble_eq_true rfl) dX1_isWord_29 ?_
      refine GG.aload_n C dX1_isWord_32 0 rfl ?_
      refine GG.aload_n C dX1_isWord_33 0 rfl ?_
      obtain ⟨c5, hf⟩ := gd_some hf
      refine GG.gx_X1_50 C rfl c5 dX1_isWord_34 ?_
      refine GG.iload C dX1_isWord_37 4 rfl ?_
      refine GG.iadd C dX1_isWord_39 ?_
      refine GG.iload_n C dX1_isWord_40 2 rfl ?_
      refine GG.isub C dX1_isWord_41 ?_
      obtain ⟨c6, hf⟩ := gd_some hf
      obtain ⟨v7, hv7, hf⟩ := obd_some hf
      refine GG.c_X1_46 C rfl (gX1_at hv7) c6 ⟨Nat.le_of_ble_eq_true rfl, Nat.le_of_ble_eq_true rfl⟩ ⟨Nat.le_of_ble_eq_true rfl, Nat.le_of_ble_eq_true rfl⟩ (Nat.le_of_ble_eq_true rfl) dX1_isWord_42 ?_
      refine GG.icmp_eq C (tgt := 50) dX1_isWord_45 (by decide) (fun c8 => ?_) (fun c8 => ?_)
      · have hf := if_t hf c8
        refine GG.iinc C (v := (a4 + (nI 1))) (lv' := [(4, .int (a4 + (nI 1))), (0, .ref a0), (1, .ref (kS K a1)), (2, .int a2), (3, .int a3)]) dX1_isWord_50 4 rfl (congrArg (a4 + ·) ic_1) (by decide) rfl ?_
        refine GG.goto C (tgt := 20) dX1_isWord_53 (by decide) ?_
        refine GG.sub [1, 2, 3, 4, 0] rfl ?_
        exact ih _ _ _ _ _ hf
      · have hf := if_f hf c8
        refine GG.iconst C dX1_isWord_48 ic_0 ?_
        have hf := Option.some.inj hf
        subst hf
        exact GG.zret C zb_0 E dX1_isWord_49
theorem gX1_isWord {K : gK} {S : Option MS}  {M : XS} {a0 : Nat} {a1 : Nat} {a2 : Int32} {a3 : Int32} {o : Int32} (hf : fX1_isWord M a0 a1 a2 a3 = some o) : gMet K yX1_isWord cX1_isWord 5 (some Jvm.ClassFile.FieldType.boolean) rX1_isWord [(.ref a0), (.ref (kS K a1)), (.int a2), (.int a3)] M S (some (.int o)) M S := by
  refine gMet.of pn_X1 (Nat.le_of_ble_eq_true rfl) fun X C E => ?_
  unfold fX1_isWord at hf
  show GG K X 5 0 0 M S 0 [(0, .ref a0), (1, .ref (kS K a1)), (2, .int a2), (3, .int a3)] []
  refine GG.iload_n C dX1_isWord_0 3 rfl ?_
  refine GG.iload_n C dX1_isWord_1 2 rfl ?_
  refine GG.isub C dX1_isWord_2 ?_
  refine GG.aload_n C dX1_isWord_3 0 rfl ?_
  obtain ⟨c1, hf⟩ := gd_some hf
  refine GG.gx_X1_30 C rfl c1 dX1_isWord_4 ?_
  refine GG.aload_n C dX1_isWord_7 0 rfl ?_
  refine GG.gx_X1_50 C rfl c1 dX1_isWord_8 ?_
  refine GG.isub C dX1_isWord_11 ?_
  refine GG.icmp_eq C (tgt := 17) dX1_isWord_12 (by decide) (fun c2 => ?_) (fun c2 => ?_)
  · have hf := if_t hf c2
    refine GG.iload_n C dX1_isWord_17 2 rfl ?_
    refine GG.istore C (lv' := [(4, .int a2), (0, .ref a0), (1, .ref (kS K a1)), (2, .int a2), (3, .int a3)]) dX1_isWord_18 (by decide) rfl ?_
    refine GG.sub [1, 2, 3, 4, 0] rfl ?_
    exact gX1_isWord_20 C E  FU _ _ _ _ _ hf
  · have hf := if_f hf c2
    refine GG.iconst C dX1_isWord_15 ic_0 ?_
    have hf := Option.some.inj hf
    subst hf
    exact GG.zret C zb_0 E dX1_isWord_16
theorem gX1_in_25 {K : gK} {X : gX} {S : Option MS} {M : XS} (C : gC K X cX1_in 5 yX1_in (some Jvm.ClassFile.FieldType.int) rX1_in)  {o : Int32} (E : gE K X (some (.int o)) M S rX1_in.cells rX1_in.slots) {k14 : Nat → Nat → Int32 → Int32 → Option Int32} (hk14 : ∀ (a0 : Nat) (a1 : Nat) (a2 : Int32) (a3 : Int32), k14 a0 a1 a2 a3 = some o → GG K X 5 0 0 M S 14 [(0, .ref a0), (1, .ref (kS K a1)), (2, .int a2), (3, .int a3)] []) :
    ∀ (n : Nat) (a0 : Nat) (a1 : Nat) (a2 : Int32) (a3 : Int32) (a4 : Int32), fX1_in_25 M k14 n a0 a1 a2 a3 a4 = some o → GG K X 5 0 0 M S 25 [(0, .ref a0), (1, .ref (kS K a1)), (2, .int a2), (3, .int a3), (4, .int a4)] [] := by
  intro n
  induction n with
  | zero => intro a0 a1 a2 a3 a4 hf; cases hf
  | succ n ih =>
    intro a0 a1 a2 a3 a4 hf
    rw [fX1_in_25] at hf
    refine GG.aload_n C dX1_in_25 1 rfl ?_
    refine GG.iload C dX1_in_26 4 rfl ?_
    obtain ⟨v5, hv5, hf⟩ := obd_some hf
    refine GG.sat C q690 hv5 (Nat.le_of_ble_eq_true rfl) (Nat.le_of_ble_eq_true rfl) (Nat.le_of_ble_eq_true rfl) (Nat.le_of_ble_eq_true rfl) (Nat.le_of_ble_eq_true rfl) dX1_in_28 ?_
    refine GG.bipush C dX1_in_31 bp_32 ?_
    refine GG.icmp_eq C (tgt := 42) dX1_in_33 (by decide) (fun c6 => ?_) (fun c6 => ?_)
    · have hf := if_t hf c6
      refine GG.aload_n C dX1_in_42 0 rfl ?_
      refine GG.aload_n C dX1_in_43 1 rfl ?_
      refine GG.iload_n C dX1_in_44 3 rfl ?_
      refine GG.iload C dX1_in_45 4 rfl ?_
      obtain ⟨c7, hf⟩ := gd_some hf
      obtain ⟨v8, hv8, hf⟩ := obd_some hf
      refine GG.c_X1_90 C rfl (gX1_isWord hv8) c7 ⟨Nat.le_of_ble_eq_true rfl, Nat.le_of_ble_eq_true rfl⟩ ⟨Nat.le_of_ble_eq_true rfl, Nat.le_of_ble_eq_true rfl⟩ (Nat.le_of_ble_eq_true rfl) dX1_in_47 ?_
      refine GG.if_eq C (tgt := 55) dX1_in_50 (by decide) (fun c9 => ?_) (fun c9 => ?_)
      · have hf := if_t hf c9
        refine GG.iinc C (v := (a2 + (nI 1))) (lv' := [(2, .int (a2 + (nI 1))), (0, .ref a0), (1, .ref (kS K a1)), (3, .int a3), (4, .int a4)]) dX1_in_55 2 rfl (congrArg (a2 + ·) ic_1) (by decide) rfl ?_
        refine GG.iload C dX1_in_58 4 rfl ?_
        refine GG.iconst C dX1_in_60 ic_1 ?_
        refine GG.iadd C dX1_in_61 ?_
        refine GG.topi fun x10 hx10 => ?_
        have hf := ltb_s hx10 hf
        refine GG.istore_n C (lv' := [(3, .int x10), (2, .int (a2 + (nI 1))), (0, .ref a0), (1, .ref (kS K a1)), (4, .int a4)]) dX1_in_62 (by decide) rfl ?_
        refine GG.goto C (tgt := 14) dX1_in_63 (by decide) ?_
        refine GG.sub [2, 3, 1, 0] rfl ?_
        exact hk14 _ _ _ _ hf
      · have hf := if_f hf c9
        refine GG.iload_n C dX1_in_53 2 rfl ?_
        have hf := Option.some.inj hf
        subst hf
        exact GG.iret C E dX1_in_54
    · have hf := if_f hf c6
      refine GG.iinc C (v := (a4 + (nI 1))) (lv' := [(4, .int (a4 + (nI 1))), (0, .ref a0), (1, .ref (kS K a1)), (2, .int a2), (3, .int a3)]) dX1_in_36 4 rfl (congrArg (a4 + ·) ic_1) (by decide) rfl ?_
      refine GG.goto C (tgt := 25) dX1_in_39 (by decide) ?_
      refine GG.sub [1, 2, 3, 4, 0] rfl ?_
      exact ih _ _ _ _ _ hf
theorem gX1_in_14 {K : gK} {X : gX} {S : Option MS} {M : XS} (C : gC K X cX1_in 5 yX1_in (some Jvm.ClassFile.FieldType.int) rX1_in)  {o : Int32} (E : gE K X (some (.int o)) M S rX1_in.cells rX1_in.slots)   :
    ∀ (n : Nat) (a0 : Nat) (a1 : Nat) (a2 : Int32) (a3 : Int32), fX1_in_14 M n a0 a1 a2 a3 = some o → GG K X 5 0 0 M S 14 [(0, .ref a0), (1, .ref (kS K a1)), (2, .int a2), (3, .int a3)] [] := by
  intro n
  induction n with
  | zero => intro a0 a1 a2 a3 hf; cases hf
  | succ n ih =>
    intro a0 a1 a2 a3 hf
    rw [fX1_in_14] at hf
    refine GG.iload_n C dX1_in_14 3 rfl ?_
    refine GG.aload_n C dX1_in_15 1 rfl ?_
    obtain ⟨v3, hv3, hf⟩ := obd_some hf
    refine GG.slen C q680 hv3 (Nat.le_of_ble_eq_true rfl) (Nat.le_of_ble_eq_true rfl) (Nat.le_of_ble_eq_true rfl) (Nat.le_of_ble_eq_true rfl) (Nat.le_of_ble_eq_true rfl) dX1_in_16 ?_
    refine GG.icmp_ge C (tgt := 66) dX1_in_19 (by decide) (fun c4 => ?_) (fun c4 => ?_)
    · have hf := if_t hf c4
      refine GG.iconst C dX1_in_66 ic_m1 ?_
      have hf := Option.some.inj hf
      subst hf
      exact GG.iret C E dX1_in_67
    · have hf := if_f hf c4
      refine GG.iload_n C dX1_in_22 3 rfl ?_
      refine GG.istore C (lv' := [(4, .int a3), (0, .ref a0), (1, .ref (kS K a1)), (2, .int a2), (3, .int a3)]) dX1_in_23 (by decide) rfl ?_
      refine GG.sub [1, 2, 3, 4, 0] rfl ?_
      exact gX1_in_25 C E (hk14 := ih) FU _ _ _ _ _ hf
theorem gX1_in {K : gK} {S : Option MS}  {M : XS} {a0 : Nat} {a1 : Nat} {o : Int32} (hf : fX1_in M a0 a1 = some o) : gMet K yX1_in cX1_in 5 (some Jvm.ClassFile.FieldType.int) rX1_in [(.ref a0), (.ref (kS K a1))] M S (some (.int o)) M S := by
  refine gMet.of pn_X1 (Nat.le_of_ble_eq_true rfl) fun X C E => ?_
  unfold fX1_in at hf
  show GG K X 5 0 0 M S 0 [(0, .ref a0), (1, .ref (kS K a1))] []
  refine GG.aload_n C dX1_in_0 0 rfl ?_
  obtain ⟨c1, hf⟩ := gd_some hf
  refine GG.gx_X1_56 C rfl c1 dX1_in_1 ?_
  refine GG.iconst C dX1_in_4 ic_2 ?_
  refine GG.icmp_eq C (tgt := 10) dX1_in_5 (by decide) (fun c2 => ?_) (fun c2 => ?_)
  · have hf := if_t hf c2
    refine GG.iconst C dX1_in_10 ic_0 ?_
    refine GG.istore_n C (lv' := [(2, .int (nI 0)), (0, .ref a0), (1, .ref (kS K a1))]) dX1_in_11 (by decide) rfl ?_
    refine GG.iconst C dX1_in_12 ic_1 ?_
    refine GG.istore_n C (lv' := [(3, .int (nI 1)), (2, .int (nI 0)), (0, .ref a0), (1, .ref (kS K a1))]) dX1_in_13 (by decide) rfl ?_
    refine GG.sub [2, 3, 1, 0] rfl ?_
    exact gX1_in_14 C E  FU _ _ _ _ hf
  · have hf := if_f hf c2
    refine GG.iconst C dX1_in_8 ic_m1 ?_
    have hf := Option.some.inj hf
    subst hf
    exact GG.iret C E dX1_in_9
theorem gX1_key {K : gK} {S : Option MS}  {M : XS} {a0 : Nat} {o : Int32} (hf : fX1_key M a0 = some o) : gMet K yX1_key cX1_key 1 (some Jvm.ClassFile.FieldType.int) rX1_key [(.ref a0)] M S (some (.int o)) M S := by
  refine gMet.of pn_X1 (Nat.le_of_ble_eq_true rfl) fun X C E => ?_
  unfold fX1_key at hf
  show GG K X 1 0 0 M S 0 [(0, .ref a0)] []
  refine GG.aload_n C dX1_key_0 0 rfl ?_
  refine GG.aload_n C dX1_key_1 0 rfl ?_
  obtain ⟨c1, hf⟩ := gd_some hf
  obtain ⟨r2, hr2, hf⟩ := obd_some hf
  refine GG.gx_X1_15 C rfl c1 hr2 dX1_key_2 ?_
  obtain ⟨c3, hf⟩ := gd_some hf
  obtain ⟨v4, hv4, hf⟩ := obd_some hf
  refine GG.c_X1_86 C rfl (gX1_in hv4) c3 ⟨Nat.le_of_ble_eq_true rfl, Nat.le_of_ble_eq_true rfl⟩ ⟨Nat.le_of_ble_eq_true rfl, Nat.le_of_ble_eq_true rfl⟩ (Nat.le_of_ble_eq_true rfl) dX1_key_5 ?_
  have hf := Option.some.inj hf
  subst hf
  exact GG.iret C E dX1_key_8
theorem gX3_of {K : gK} {S : Option MS}  {M : XS} {a0 : Nat} {a1 : Int32} {a2 : Int32} {o : (Nat × XS)} (hf : fX3_of M a0 a1 a2 = some o) : gMet K yX3_of cX3_of 3 (some (Jvm.ClassFile.FieldType.object "SwapBook$Wrong")) rX3_of [(.ref a0), (.int a1), (.int a2)] M S (some (.ref o.1)) o.2 S := by
  refine gMet.of pn_X3 (Nat.le_of_ble_eq_true rfl) fun X C E => ?_
  unfold fX3_of at hf
  show GG K X 3 0 0 M S 0 [(0, .ref a0), (1, .int a1), (2, .int a2)] []
  refine GG.aload_n C dX3_of_0 0 rfl ?_
  refine GG.iload_n C dX3_of_1 1 rfl ?_
  obtain ⟨c1, hf⟩ := gd_some hf
  refine GG.px_X3_7 C rfl c1 dX3_of_2 ?_
  refine GG.topM fun M2 hM2 => ?_
  have hf := ltb_s hM2 hf
  refine GG.aload_n C dX3_of_5 0 rfl ?_
  refine GG.iload_n C dX3_of_6 2 rfl ?_
  obtain ⟨c3, hf⟩ := gd_some hf
  refine GG.px_X3_13 C rfl c3 dX3_of_7 ?_
  refine GG.topM fun M4 hM4 => ?_
  have hf := ltb_s hM4 hf
  refine GG.aload_n C dX3_of_10 0 rfl ?_
  have hf := Option.some.inj hf
  subst hf
  exact GG.aret C (Or.inl ⟨_, rfl⟩) E dX3_of_11
theorem gX1_fail {K : gK} {S : Option MS}  {M : XS} {a0 : Nat} {a1 : Int32} {o : (Nat × XS)} (hf : fX1_fail M a0 a1 = some o) : gMet K yX1_fail cX1_fail 2 (some (Jvm.ClassFile.FieldType.object "SwapBook$Wrong")) rX1_fail [(.ref a0), (.int a1)] M S (some (.ref o.1)) o.2 S := by
  refine gMet.of pn_X1 (Nat.le_of_ble_eq_true rfl) fun X C E => ?_
  unfold fX1_fail at hf
  show GG K X 2 0 0 M S 0 [(0, .ref a0), (1, .int a1)] []
  refine GG.aload_n C dX1_fail_0 0 rfl ?_
  obtain ⟨c1, hf⟩ := gd_some hf
  obtain ⟨r2, hr2, hf⟩ := obd_some hf
  refine GG.gx_X1_22 C rfl c1 hr2 dX1_fail_1 ?_
  refine GG.aload_n C dX1_fail_4 0 rfl ?_
  refine GG.gx_X1_56 C rfl c1 dX1_fail_5 ?_
  refine GG.iconst C dX1_fail_8 ic_1 ?_
  refine GG.icmp_ne C (tgt := 16) dX1_fail_9 (by decide) (fun c3 => ?_) (fun c3 => ?_)
  · have hf := if_f hf c3
    refine GG.iload_n C dX1_fail_16 1 rfl ?_
    refine GG.aload_n C dX1_fail_17 0 rfl ?_
    refine GG.gx_X1_50 C rfl c1 dX1_fail_18 ?_
    obtain ⟨c4, hf⟩ := gd_some hf
    obtain ⟨p5, hp5, hf⟩ := obd_some hf
    refine GG.c_X1_76 C rfl (gX3_of hp5) c4 ⟨Nat.le_of_ble_eq_true rfl, Nat.le_of_ble_eq_true rfl⟩ ⟨Nat.le_of_ble_eq_true rfl, Nat.le_of_ble_eq_true rfl⟩ (Nat.le_of_ble_eq_true rfl) dX1_fail_21 ?_
    have hf := Option.some.inj hf
    subst hf
    exact GG.aret C (Or.inl ⟨_, rfl⟩) E dX1_fail_24
  · have hf := if_t hf c3
    refine GG.iconst C dX1_fail_12 ic_1 ?_
    refine GG.goto C (tgt := 17) dX1_fail_13 (by decide) ?_
    refine GG.aload_n C dX1_fail_17 0 rfl ?_
    refine GG.gx_X1_50 C rfl c1 dX1_fail_18 ?_
    obtain ⟨c6, hf⟩ := gd_some hf
    obtain ⟨p7, hp7, hf⟩ := obd_some hf
    refine GG.c_X1_76 C rfl (gX3_of hp7) c6 ⟨Nat.le_of_ble_eq_true rfl, Nat.le_of_ble_eq_true rfl⟩ ⟨Nat.le_of_ble_eq_true rfl, Nat.le_of_ble_eq_true rfl⟩ (Nat.le_of_ble_eq_true rfl) dX1_fail_21 ?_
    have hf := Option.some.inj hf
    subst hf
    exact GG.aret C (Or.inl ⟨_, rfl⟩) E dX1_fail_24
theorem gX1_need {K : gK} {S : Option MS}  {M : XS} {a0 : Nat} {a1 : Int32} {o : (XS ⊕ (Nat × XS))} (hf : fX1_need M a0 a1 = some o) : gMetX K yX1_need cX1_need 2 none rX1_need [(.ref a0), (.int a1)] M S (oV o) (oVm o) S := by
  refine gMetX.of pn_X1 (Nat.le_of_ble_eq_true rfl) fun X C E => ?_
  unfold fX1_need at hf
  show GG K X 2 0 0 M S 0 [(0, .ref a0), (1, .int a1)] []
  refine GG.iload_n C dX1_need_0 1 rfl ?_
  refine GG.if_ne C (tgt := 10) dX1_need_1 (by decide) (fun c1 => ?_) (fun c1 => ?_)
  · have hf := if_f hf c1
    have hf := Option.some.inj hf
    subst hf
    exact GG.vretX C E dX1_need_10
  · have hf := if_t hf c1
    refine GG.aload_n C dX1_need_4 0 rfl ?_
    refine GG.iconst C dX1_need_5 ic_2 ?_
    obtain ⟨c2, hf⟩ := gd_some hf
    obtain ⟨p3, hp3, hf⟩ := obd_some hf
    refine GG.c_X1_82 C rfl (gX1_fail hp3) c2 ⟨Nat.le_of_ble_eq_true rfl, Nat.le_of_ble_eq_true rfl⟩ ⟨Nat.le_of_ble_eq_true rfl, Nat.le_of_ble_eq_true rfl⟩ (Nat.le_of_ble_eq_true rfl) dX1_need_6 ?_
    obtain ⟨c4, hf⟩ := gd_some hf
    have hf := Option.some.inj hf
    subst hf
    exact GG.athrow C E (Nat.le_of_ble_eq_true rfl) (Nat.le_of_ble_eq_true rfl) c4 dX1_need_9
theorem gX1_name_48 {K : gK} {X : gX} {S : Option MS} (C : gC K X cX1_name 4 yX1_name (some Jvm.ClassFile.FieldType.long) rX1_name)  {o : ((Int64 × XS) ⊕ (Nat × XS))} (E : gEX K X (oL o) (oLm o) S rX1_name.cells rX1_name.slots)   :
    ∀ (n : Nat) (M : XS) (a0 : Nat) (a1 : Int64) (a3 : Int32), fX1_name_48  n M a0 a1 a3 = some o → GG K X 4 0 0 M S 48 [(0, .ref a0), (1, .long a1), (3, .int a3)] [] := by
  intro n
  induction n with
  | zero => intro M a0 a1 a3 hf; cases hf
  | succ n ih =>
    intro M a0 a1 a3 hf
    rw [fX1_name_48] at hf
    refine GG.iload_n C dX1_name_48 2 rfl ?_
    refine GG.aload_n C dX1_name_49 0 rfl ?_
    obtain ⟨c25, hf⟩ := gd_some hf
    refine GG.gx_X1_30 C rfl c25 dX1_name_50 ?_
    refine GG.icmp_ge C (tgt := 74) dX1_name_53 (by decide) (fun c26 => ?_) (fun c26 => ?_)
    · have hf := if_t hf c26
      refine GG.lload_n C dX1_name_74 1 rfl ?_
      have hf := Option.some.inj hf
      subst hf
      exact GG.lretX C E dX1_name_75
    · have hf := if_f hf c26
      refine GG.lload_n C dX1_name_56 1 rfl ?_
      refine GG.bipush C dX1_name_57 bp_8 ?_
      refine GG.lshl C dX1_name_59 ?_
      refine GG.aload_n C dX1_name_60 0 rfl ?_
      refine GG.iload_n C dX1_name_61 2 rfl ?_
      obtain ⟨c27, hf⟩ := gd_some hf
      obtain ⟨v28, hv28, hf⟩ := obd_some hf
      refine GG.c_X1_46 C rfl (gX1_at hv28) c27 ⟨Nat.le_of_ble_eq_true rfl, Nat.le_of_ble_eq_true rfl⟩ ⟨Nat.le_of_ble_eq_true rfl, Nat.le_of_ble_eq_true rfl⟩ (Nat.le_of_ble_eq_true rfl) dX1_name_62 ?_
      refine GG.i2l C dX1_name_65 ?_
      refine GG.lor C dX1_name_66 ?_
      refine GG.topl fun x29 hx29 => ?_
      have hf := ltb_s hx29 hf
      refine GG.lstore_n C (lv' := [(1, .long x29), (0, .ref a0), (3, .int a3)]) dX1_name_67 (by decide) rfl ?_
      refine GG.iinc C (v := (a3 + (nI 1))) (lv' := [(3, .int (a3 + (nI 1))), (1, .long x29), (0, .ref a0)]) dX1_name_68 2 rfl (congrArg (a3 + ·) ic_1) (by decide) rfl ?_
      refine GG.goto C (tgt := 48) dX1_name_71 (by decide) ?_
      refine GG.sub [2, 1, 0] rfl ?_
      exact ih _ _ _ _ hf
theorem gX1_name {K : gK} {S : Option MS}  {M : XS} {a0 : Nat} {o : ((Int64 × XS) ⊕ (Nat × XS))} (hf : fX1_name M a0 = some o) : gMetX K yX1_name cX1_name 4 (some Jvm.ClassFile.FieldType.long) rX1_name [(.ref a0)] M S (oL o) (oLm o) S := by
  refine gMetX.of pn_X1 (Nat.le_of_ble_eq_true rfl) fun X C E => ?_
  unfold fX1_name at hf
  show GG K X 4 0 0 M S 0 [(0, .ref a0)] []
  refine GG.aload_n C dX1_name_0 0 rfl ?_
  refine GG.aload_n C dX1_name_1 0 rfl ?_
  obtain ⟨c1, hf⟩ := gd_some hf
  refine GG.gx_X1_56 C rfl c1 dX1_name_2 ?_
  refine GG.iconst C dX1_name_5 ic_2 ?_
  refine GG.icmp_ne C (tgt := 37) dX1_name_6 (by decide) (fun c2 => ?_) (fun c2 => ?_)
  · have hf := if_f hf c2
    refine GG.iconst C dX1_name_37 ic_0 ?_
    obtain ⟨c3, hf⟩ := gd_some hf
    obtain ⟨p4, hp4, hf⟩ := obd_some hf
    cases p4 with
    | inl p4 =>
      refine GG.c_X1_96l C rfl (gX1_need hp4) c3 ⟨Nat.le_of_ble_eq_true rfl, Nat.le_of_ble_eq_true rfl⟩ ⟨Nat.le_of_ble_eq_true rfl, Nat.le_of_ble_eq_true rfl⟩ (Nat.le_of_ble_eq_true rfl) dX1_name_38 ?_
      refine GG.lconst C dX1_name_41 lc_0 ?_
      refine GG.lstore_n C (lv' := [(1, .long (lN 0)), (0, .ref a0)]) dX1_name_42 (by decide) rfl ?_
      refine GG.aload_n C dX1_name_43 1 rfl ?_
      obtain ⟨c5, hf⟩ := gd_some hf
      refine GG.gx_X1_50 C rfl c5 dX1_name_44 ?_
      refine GG.topi fun x6 hx6 => ?_
      have hf := ltb_s hx6 hf
      refine GG.istore_n C (lv' := [(3, .int x6), (1, .long (lN 0)), (0, .ref a0)]) dX1_name_47 (by decide) rfl ?_
      refine GG.sub [2, 1, 0] rfl ?_
      exact gX1_name_48 C E  FU _ _ _ _ hf
    | inr p4 =>
      obtain ⟨c7, hf⟩ := gd_some hf
      have hf := Option.some.inj hf
      subst hf
      exact GG.c_X1_96r C rfl (gX1_need hp4) c3 ⟨Nat.le_of_ble_eq_true rfl, Nat.le_of_ble_eq_true rfl⟩ ⟨Nat.le_of_ble_eq_true rfl, Nat.le_of_ble_eq_true rfl⟩ (Nat.le_of_ble_eq_true rfl) dX1_name_38 c7 E ⟨Nat.le_of_ble_eq_true rfl, Nat.le_of_ble_eq_true rfl⟩
  · have hf := if_t hf c2
    refine GG.aload_n C dX1_name_9 0 rfl ?_
    refine GG.gx_X1_30 C rfl c1 dX1_name_10 ?_
    refine GG.aload_n C dX1_name_13 0 rfl ?_
    refine GG.gx_X1_50 C rfl c1 dX1_name_14 ?_
    refine GG.isub C dX1_name_17 ?_
    refine GG.bipush C dX1_name_18 bp_8 ?_
    refine GG.icmp_gt C (tgt := 37) dX1_name_20 (by decide) (fun c8 => ?_) (fun c8 => ?_)
    · have hf := if_t hf c8
      refine GG.iconst C dX1_name_37 ic_0 ?_
      obtain ⟨c9, hf⟩ := gd_some hf
      obtain ⟨p10, hp10, hf⟩ := obd_some hf
      cases p10 with
      | inl p10 =>
        refine GG.c_X1_96l C rfl (gX1_need hp10) c9 ⟨Nat.le_of_ble_eq_true rfl, Nat.le_of_ble_eq_true rfl⟩ ⟨Nat.le_of_ble_eq_true rfl, Nat.le_of_ble_eq_true rfl⟩ (Nat.le_of_ble_eq_true rfl) dX1_name_38 ?_
        refine GG.lconst C dX1_name_41 lc_0 ?_
        refine GG.lstore_n C (lv' := [(1, .long (lN 0)), (0, .ref a0)]) dX1_name_42 (by decide) rfl ?_
        refine GG.aload_n C dX1_name_43 1 rfl ?_
        obtain ⟨c11, hf⟩ := gd_some hf
        refine GG.gx_X1_50 C rfl c11 dX1_name_44 ?_
        refine GG.topi fun x12 hx12 => ?_
        have hf := ltb_s hx12 hf
        refine GG.istore_n C (lv' := [(3, .int x12), (1, .long (lN 0)), (0, .ref a0)]) dX1_name_47 (by decide) rfl ?_
        refine GG.sub [2, 1, 0] rfl ?_
        exact gX1_name_48 C E  FU _ _ _ _ hf
      | inr p10 =>
        obtain ⟨c13, hf⟩ := gd_some hf
        have hf := Option.some.inj hf
        subst hf
        exact GG.c_X1_96r C rfl (gX1_need hp10) c9 ⟨Nat.le_of_ble_eq_true rfl, Nat.le_of_ble_eq_true rfl⟩ ⟨Nat.le_of_ble_eq_true rfl, Nat.le_of_ble_eq_true rfl⟩ (Nat.le_of_ble_eq_true rfl) dX1_name_38 c13 E ⟨Nat.le_of_ble_eq_true rfl, Nat.le_of_ble_eq_true rfl⟩
    · have hf := if_f hf c8
      refine GG.aload_n C dX1_name_23 0 rfl ?_
      refine GG.ldcS C C.gt.2.2.2.1 dX1_name_24 ?_
      obtain ⟨c14, hf⟩ := gd_some hf
      obtain ⟨v15, hv15, hf⟩ := obd_some hf
      refine GG.c_X1_86 C rfl (gX1_in hv15) c14 ⟨Nat.le_of_ble_eq_true rfl, Nat.le_of_ble_eq_true rfl⟩ ⟨Nat.le_of_ble_eq_true rfl, Nat.le_of_ble_eq_true rfl⟩ (Nat.le_of_ble_eq_true rfl) dX1_name_26 ?_
      refine GG.iconst C dX1_name_29 ic_m1 ?_
      refine GG.icmp_ne C (tgt := 37) dX1_name_30 (by decide) (fun c16 => ?_) (fun c16 => ?_)
      · have hf := if_f hf c16
        refine GG.iconst C dX1_name_37 ic_0 ?_
        obtain ⟨p17, hp17, hf⟩ := obd_some hf
        cases p17 with
        | inl p17 =>
          refine GG.c_X1_96l C rfl (gX1_need hp17) c14 ⟨Nat.le_of_ble_eq_true rfl, Nat.le_of_ble_eq_true rfl⟩ ⟨Nat.le_of_ble_eq_true rfl, Nat.le_of_ble_eq_true rfl⟩ (Nat.le_of_ble_eq_true rfl) dX1_name_38 ?_
          refine GG.lconst C dX1_name_41 lc_0 ?_
          refine GG.lstore_n C (lv' := [(1, .long (lN 0)), (0, .ref a0)]) dX1_name_42 (by decide) rfl ?_
          refine GG.aload_n C dX1_name_43 1 rfl ?_
          obtain ⟨c18, hf⟩ := gd_some hf
          refine GG.gx_X1_50 C rfl c18 dX1_name_44 ?_
          refine GG.topi fun x19 hx19 => ?_
          have hf := ltb_s hx19 hf
          refine GG.istore_n C (lv' := [(3, .int x19), (1, .long (lN 0)), (0, .ref a0)]) dX1_name_47 (by decide) rfl ?_
          refine GG.sub [2, 1, 0] rfl ?_
          exact gX1_name_48 C E  FU _ _ _ _ hf
        | inr p17 =>
          obtain ⟨c20, hf⟩ := gd_some hf
          have hf := Option.some.inj hf
          subst hf
          exact GG.c_X1_96r C rfl (gX1_need hp17) c14 ⟨Nat.le_of_ble_eq_true rfl, Nat.le_of_ble_eq_true rfl⟩ ⟨Nat.le_of_ble_eq_true rfl, Nat.le_of_ble_eq_true rfl⟩ (Nat.le_of_ble_eq_true rfl) dX1_name_38 c20 E ⟨Nat.le_of_ble_eq_true rfl, Nat.le_of_ble_eq_true rfl⟩
      · have hf := if_t hf c16
        refine GG.iconst C dX1_name_33 ic_1 ?_
        refine GG.goto C (tgt := 38) dX1_name_34 (by decide) ?_
        obtain ⟨p21, hp21, hf⟩ := obd_some hf
        cases p21 with
        | inl p21 =>
          refine GG.c_X1_96l C rfl (gX1_need hp21) c14 ⟨Nat.le_of_ble_eq_true rfl, Nat.le_of_ble_eq_true rfl⟩ ⟨Nat.le_of_ble_eq_true rfl, Nat.le_of_ble_eq_true rfl⟩ (Nat.le_of_ble_eq_true rfl) dX1_name_38 ?_
          refine GG.lconst C dX1_name_41 lc_0 ?_
          refine GG.lstore_n C (lv' := [(1, .long (lN 0)), (0, .ref a0)]) dX1_name_42 (by decide) rfl ?_
          refine GG.aload_n C dX1_name_43 1 rfl ?_
          obtain ⟨c22, hf⟩ := gd_some hf
          refine GG.gx_X1_50 C rfl c22 dX1_name_44 ?_
          refine GG.topi fun x23 hx23 => ?_
          have hf := ltb_s hx23 hf
          refine GG.istore_n C (lv' := [(3, .int x23), (1, .long (lN 0)), (0, .ref a0)]) dX1_name_47 (by decide) rfl ?_
          refine GG.sub [2, 1, 0] rfl ?_
          exact gX1_name_48 C E  FU _ _ _ _ hf
        | inr p21 =>
          obtain ⟨c24, hf⟩ := gd_some hf
          have hf := Option.some.inj hf
          subst hf
          exact GG.c_X1_96r C rfl (gX1_need hp21) c14 ⟨Nat.le_of_ble_eq_true rfl, Nat.le_of_ble_eq_true rfl⟩ ⟨Nat.le_of_ble_eq_true rfl, Nat.le_of_ble_eq_true rfl⟩ (Nat.le_of_ble_eq_true rfl) dX1_name_38 c24 E ⟨Nat.le_of_ble_eq_true rfl, Nat.le_of_ble_eq_true rfl⟩
theorem gX1_number_14 {K : gK} {X : gX} {S : Option MS} (C : gC K X cX1_number 3 yX1_number (some Jvm.ClassFile.FieldType.int) rX1_number)  {o : ((Int32 × XS) ⊕ (Nat × XS))} (E : gEX K X (oI o) (oIm o) S rX1_number.cells rX1_number.slots)   :
    ∀ (M : XS) (a0 : Nat) (a1 : Int32) (a2 : Int32) (s0 : Int32) (s1 : Nat), fX1_number_14  M a0 a1 a2 s0 s1 = some o → GG K X 3 0 0 M S 14 [(0, .ref a0), (1, .int a1), (2, .int a2)] [.int s0, .ref s1] := by
  intro M a0 a1 a2 s0 s1 hf
  unfold fX1_number_14 at hf
  obtain ⟨c3, hf⟩ := gd_some hf
  obtain ⟨p4, hp4, hf⟩ := obd_some hf
  cases p4 with
  | inl p4 =>
    refine GG.c_X1_96l C rfl (gX1_need hp4) c3 ⟨Nat.le_of_ble_eq_true rfl, Nat.le_of_ble_eq_true rfl⟩ ⟨Nat.le_of_ble_eq_true rfl, Nat.le_of_ble_eq_true rfl⟩ (Nat.le_of_ble_eq_true rfl) dX1_number_14 ?_
    refine GG.aload_n C dX1_number_17 0 rfl ?_
    obtain ⟨c5, hf⟩ := gd_some hf
    refine GG.gx_X1_53 C rfl c5 dX1_number_18 ?_
    refine GG.iload_n C dX1_number_21 1 rfl ?_
    refine GG.icmp_lt C (tgt := 33) dX1_number_22 (by decide) (fun c6 => ?_) (fun c6 => ?_)
    · have hf := if_t hf c6
      refine GG.aload_n C dX1_number_33 0 rfl ?_
      refine GG.iconst C dX1_number_34 ic_4 ?_
      obtain ⟨c7, hf⟩ := gd_some hf
      obtain ⟨p8, hp8, hf⟩ := obd_some hf
      refine GG.c_X1_82 C rfl (gX1_fail hp8) c7 ⟨Nat.le_of_ble_eq_true rfl, Nat.le_of_ble_eq_true rfl⟩ ⟨Nat.le_of_ble_eq_true rfl, Nat.le_of_ble_eq_true rfl⟩ (Nat.le_of_ble_eq_true rfl) dX1_number_35 ?_
      obtain ⟨c9, hf⟩ := gd_some hf
      have hf := Option.some.inj hf
      subst hf
      exact GG.athrow C E (Nat.le_of_ble_eq_true rfl) (Nat.le_of_ble_eq_true rfl) c9 dX1_number_38
    · have hf := if_f hf c6
      refine GG.aload_n C dX1_number_25 0 rfl ?_
      refine GG.gx_X1_53 C rfl c5 dX1_number_26 ?_
      refine GG.iload_n C dX1_number_29 2 rfl ?_
      refine GG.icmp_le C (tgt := 39) dX1_number_30 (by decide) (fun c10 => ?_) (fun c10 => ?_)
      · have hf := if_t hf c10
        refine GG.aload_n C dX1_number_39 0 rfl ?_
        refine GG.gx_X1_53 C rfl c5 dX1_number_40 ?_
        have hf := Option.some.inj hf
        subst hf
        exact GG.iretX C E dX1_number_43
      · have hf := if_f hf c10
        refine GG.aload_n C dX1_number_33 0 rfl ?_
        refine GG.iconst C dX1_number_34 ic_4 ?_
        obtain ⟨c11, hf⟩ := gd_some hf
        obtain ⟨p12, hp12, hf⟩ := obd_some hf
        refine GG.c_X1_82 C rfl (gX1_fail hp12) c11 ⟨Nat.le_of_ble_eq_true rfl, Nat.le_of_ble_eq_true rfl⟩ ⟨Nat.le_of_ble_eq_true rfl, Nat.le_of_ble_eq_true rfl⟩ (Nat.le_of_ble_eq_true rfl) dX1_number_35 ?_
        obtain ⟨c13, hf⟩ := gd_some hf
        have hf := Option.some.inj hf
        subst hf
        exact GG.athrow C E (Nat.le_of_ble_eq_true rfl) (Nat.le_of_ble_eq_true rfl) c13 dX1_number_38
  | inr p4 =>
    obtain ⟨c14, hf⟩ := gd_some hf
    have hf := Option.some.inj hf
    subst hf
    exact GG.c_X1_96r C rfl (gX1_need hp4) c3 ⟨Nat.le_of_ble_eq_true rfl, Nat.le_of_ble_eq_true rfl⟩ ⟨Nat.le_of_ble_eq_true rfl, Nat.le_of_ble_eq_true rfl⟩ (Nat.le_of_ble_eq_true rfl) dX1_number_14 c14 E ⟨Nat.le_of_ble_eq_true rfl, Nat.le_of_ble_eq_true rfl⟩
theorem gX1_number {K : gK} {S : Option MS}  {M : XS} {a0 : Nat} {a1 : Int32} {a2 : Int32} {o : ((Int32 × XS) ⊕ (Nat × XS))} (hf : fX1_number M a0 a1 a2 = some o) : gMetX K yX1_number cX1_number 3 (some Jvm.ClassFile.FieldType.int) rX1_number [(.ref a0), (.int a1), (.int a2)] M S (oI o) (oIm o) S := by
  refine gMetX.of pn_X1 (Nat.le_of_ble_eq_true rfl) fun X C E => ?_
  unfold fX1_number at hf
  show GG K X 3 0 0 M S 0 [(0, .ref a0), (1, .int a1), (2, .int a2)] []
  refine GG.aload_n C dX1_number_0 0 rfl ?_
  refine GG.aload_n C dX1_number_1 0 rfl ?_
  obtain ⟨c1, hf⟩ := gd_some hf
  refine GG.gx_X1_56 C rfl c1 dX1_number_2 ?_
  refine GG.iconst C dX1_number_5 ic_3 ?_
  refine GG.icmp_ne C (tgt := 13) dX1_number_6 (by decide) (fun c2 => ?_) (fun c2 => ?_)
  · have hf := if_f hf c2
    refine GG.iconst C dX1_number_13 ic_0 ?_
    refine GG.sub [0, 1, 2] rfl ?_
    exact gX1_number_14 C E  _ _ _ _ _ _ hf
  · have hf := if_t hf c2
    refine GG.iconst C dX1_number_9 ic_1 ?_
    refine GG.goto C (tgt := 14) dX1_number_10 (by decide) ?_
    refine GG.sub [0, 1, 2] rfl ?_
    exact gX1_number_14 C E  _ _ _ _ _ _ hf
theorem gX1_passed {K : gK} {S : Option MS}  {M : XS} {a0 : Nat} {a1 : Int32} {a2 : Int32} {o : ((Int32 × XS) ⊕ (Nat × XS))} (hf : fX1_passed M a0 a1 a2 = some o) : gMetX K yX1_passed cX1_passed 4 (some Jvm.ClassFile.FieldType.int) rX1_passed [(.ref a0), (.int a1), (.int a2)] M S (oI o) (oIm o) S := by
  refine gMetX.of pn_X1 (Nat.le_of_ble_eq_true rfl) fun X C E => ?_
  unfold fX1_passed at hf
  show GG K X 4 0 0 M S 0 [(0, .ref a0), (1, .int a1), (2, .int a2)] []
  refine GG.aload_n C dX1_passed_0 0 rfl ?_
  refine GG.iload_n C dX1_passed_1 1 rfl ?_
  refine GG.iload_n C dX1_passed_2 2 rfl ?_
  obtain ⟨c1, hf⟩ := gd_some hf
  obtain ⟨p2, hp2, hf⟩ := obd_some hf
  cases p2 with
  | inl p2 =>
    refine GG.c_X1_100l C rfl (gX1_number hp2) c1 ⟨Nat.le_of_ble_eq_true rfl, Nat.le_of_ble_eq_true rfl⟩ ⟨Nat.le_of_ble_eq_true rfl, Nat.le_of_ble_eq_true rfl⟩ (Nat.le_of_ble_eq_true rfl) dX1_passed_3 ?_
    refine GG.istore_n C (lv' := [(3, .int p2.1), (0, .ref a0), (1, .int a1), (2, .int a2)]) dX1_passed_6 (by decide) rfl ?_
    refine GG.aload_n C dX1_passed_7 1 rfl ?_
    obtain ⟨c3, hf⟩ := gd_some hf
    obtain ⟨p4, hp4, hf⟩ := obd_some hf
    refine GG.c_X1_33 C rfl (gX1_next hp4) c3 ⟨Nat.le_of_ble_eq_true rfl, Nat.le_of_ble_eq_true rfl⟩ ⟨Nat.le_of_ble_eq_true rfl, Nat.le_of_ble_eq_true rfl⟩ (Nat.le_of_ble_eq_true rfl) dX1_passed_8 ?_
    refine GG.iload_n C dX1_passed_11 0 rfl ?_
    have hf := Option.some.inj hf
    subst hf
    exact GG.iretX C E dX1_passed_12
  | inr p2 =>
    obtain ⟨c5, hf⟩ := gd_some hf
    have hf := Option.some.inj hf
    subst hf
    exact GG.c_X1_100r C rfl (gX1_number hp2) c1 ⟨Nat.le_of_ble_eq_true rfl, Nat.le_of_ble_eq_true rfl⟩ ⟨Nat.le_of_ble_eq_true rfl, Nat.le_of_ble_eq_true rfl⟩ (Nat.le_of_ble_eq_true rfl) dX1_passed_3 c5 E ⟨Nat.le_of_ble_eq_true rfl, Nat.le_of_ble_eq_true rfl⟩
theorem gX1_is {K : gK} {S : Option MS}  {M : XS} {a0 : Nat} {a1 : Int32} {o : Int32} (hf : fX1_is M a0 a1 = some o) : gMet K yX1_is cX1_is 2 (some Jvm.ClassFile.FieldType.boolean) rX1_is [(.ref a0), (.int a1)] M S (some (.int o)) M S := by
  refine gMet.of pn_X1 (Nat.le_of_ble_eq_true rfl) fun X C E => ?_
  unfold fX1_is at hf
  show GG K X 2 0 0 M S 0 [(0, .ref a0), (1, .int a1)] []
  refine GG.aload_n C dX1_is_0 0 rfl ?_
  obtain ⟨c1, hf⟩ := gd_some hf
  refine GG.gx_X1_56 C rfl c1 dX1_is_1 ?_
  refine GG.iconst C dX1_is_4 ic_4 ?_
  refine GG.icmp_ne C (tgt := 20) dX1_is_5 (by decide) (fun c2 => ?_) (fun c2 => ?_)
  · have hf := if_f hf c2
    refine GG.iconst C dX1_is_20 ic_0 ?_
    have hf := Option.some.inj hf
    subst hf
    exact GG.zret C zb_0 E dX1_is_21
  · have hf := if_t hf c2
    refine GG.aload_n C dX1_is_8 0 rfl ?_
    refine GG.gx_X1_53 C rfl c1 dX1_is_9 ?_
    refine GG.iload_n C dX1_is_12 1 rfl ?_
    refine GG.icmp_ne C (tgt := 20) dX1_is_13 (by decide) (fun c3 => ?_) (fun c3 => ?_)
    · have hf := if_f hf c3
      refine GG.iconst C dX1_is_20 ic_0 ?_
      have hf := Option.some.inj hf
      subst hf
      exact GG.zret C zb_0 E dX1_is_21
    · have hf := if_t hf c3
      refine GG.iconst C dX1_is_16 ic_1 ?_
      refine GG.goto C (tgt := 21) dX1_is_17 (by decide) ?_
      have hf := Option.some.inj hf
      subst hf
      exact GG.zret C zb_1 E dX1_is_21
theorem gX1_closes {K : gK} {S : Option MS}  {M : XS} {a0 : Nat} {o : (XS ⊕ (Nat × XS))} (hf : fX1_closes M a0 = some o) : gMetX K yX1_closes cX1_closes 1 none rX1_closes [(.ref a0)] M S (oV o) (oVm o) S := by
  refine gMetX.of pn_X1 (Nat.le_of_ble_eq_true rfl) fun X C E => ?_
  unfold fX1_closes at hf
  show GG K X 1 0 0 M S 0 [(0, .ref a0)] []
  refine GG.aload_n C dX1_closes_0 0 rfl ?_
  refine GG.aload_n C dX1_closes_1 0 rfl ?_
  refine GG.bipush C dX1_closes_2 bp_59 ?_
  obtain ⟨c1, hf⟩ := gd_some hf
  obtain ⟨v2, hv2, hf⟩ := obd_some hf
  refine GG.c_X1_103 C rfl (gX1_is hv2) c1 ⟨Nat.le_of_ble_eq_true rfl, Nat.le_of_ble_eq_true rfl⟩ ⟨Nat.le_of_ble_eq_true rfl, Nat.le_of_ble_eq_true rfl⟩ (Nat.le_of_ble_eq_true rfl) dX1_closes_4 ?_
  obtain ⟨p3, hp3, hf⟩ := obd_some hf
  cases p3 with
  | inl p3 =>
    refine GG.c_X1_96l C rfl (gX1_need hp3) c1 ⟨Nat.le_of_ble_eq_true rfl, Nat.le_of_ble_eq_true rfl⟩ ⟨Nat.le_of_ble_eq_true rfl, Nat.le_of_ble_eq_true rfl⟩ (Nat.le_of_ble_eq_true rfl) dX1_closes_7 ?_
    refine GG.aload_n C dX1_closes_10 0 rfl ?_
    obtain ⟨c4, hf⟩ := gd_some hf
    obtain ⟨p5, hp5, hf⟩ := obd_some hf
    refine GG.c_X1_33 C rfl (gX1_next hp5) c4 ⟨Nat.le_of_ble_eq_true rfl, Nat.le_of_ble_eq_true rfl⟩ ⟨Nat.le_of_ble_eq_true rfl, Nat.le_of_ble_eq_true rfl⟩ (Nat.le_of_ble_eq_true rfl) dX1_closes_11 ?_
    have hf := Option.some.inj hf
    subst hf
    exact GG.vretX C E dX1_closes_14
  | inr p3 =>
    obtain ⟨c6, hf⟩ := gd_some hf
    have hf := Option.some.inj hf
    subst hf
    exact GG.c_X1_96r C rfl (gX1_need hp3) c1 ⟨Nat.le_of_ble_eq_true rfl, Nat.le_of_ble_eq_true rfl⟩ ⟨Nat.le_of_ble_eq_true rfl, Nat.le_of_ble_eq_true rfl⟩ (Nat.le_of_ble_eq_true rfl) dX1_closes_7 c6 E ⟨Nat.le_of_ble_eq_true rfl, Nat.le_of_ble_eq_true rfl⟩
theorem gX7_init {K : gK} {S : Option MS}  {M : XS} {a0 : Nat} {a1 : Int64} {a3 : Int32} {o : XS} (hf : fX7_init M a0 a1 a3 = some o) : gMet K yX7_init cX7_init 4 none rX7_init [(.ref a0), (.long a1), (.int a3)] M S none o S := by
  refine gMet.of pn_X7 (Nat.le_of_ble_eq_true rfl) fun X C E => ?_
  unfold fX7_init at hf
  show GG K X 4 0 0 M S 0 [(0, .ref a0), (1, .long a1), (3, .int a3)] []
  refine GG.aload_n C dX7_init_0 0 rfl ?_
  refine GG.objInit C q802 q179 q180 (Nat.le_of_ble_eq_true rfl) (Nat.le_of_ble_eq_true rfl) dX7_init_1 ?_
  refine GG.aload_n C dX7_init_4 0 rfl ?_
  refine GG.iconst C dX7_init_5 ic_m1 ?_
  obtain ⟨c1, hf⟩ := gd_some hf
  refine GG.px_X7_9 C rfl c1 dX7_init_6 ?_
  refine GG.topM fun M2 hM2 => ?_
  have hf := ltb_s hM2 hf
  refine GG.aload_n C dX7_init_9 0 rfl ?_
  refine GG.lload_n C dX7_init_10 1 rfl ?_
  obtain ⟨c3, hf⟩ := gd_some hf
  refine GG.px_X7_15 C rfl rfl c3 dX7_init_11 ?_
  refine GG.topM fun M4 hM4 => ?_
  have hf := ltb_s hM4 hf
  refine GG.aload_n C dX7_init_14 0 rfl ?_
  refine GG.iload_n C dX7_init_15 2 rfl ?_
  obtain ⟨c5, hf⟩ := gd_some hf
  refine GG.px_X7_19 C rfl rfl c5 dX7_init_16 ?_
  refine GG.topM fun M6 hM6 => ?_
  have hf := ltb_s hM6 hf
  refine GG.aload_n C dX7_init_19 0 rfl ?_
  refine GG.iload_n C dX7_init_20 2 rfl ?_
  obtain ⟨c7, hf⟩ := gd_some hf
  refine GG.px_X7_22 C rfl c7 dX7_init_21 ?_
  refine GG.topM fun M8 hM8 => ?_
  have hf := ltb_s hM8 hf
  have hf := Option.some.inj hf
  subst hf
  exact GG.vret C E dX7_init_24
theorem gX10_init {K : gK} {S : Option MS}  {M : XS} {a0 : Nat} {a1 : Int64} {a3 : Int32} {a4 : Int32} {o : XS} (hf : fX10_init M a0 a1 a3 a4 = some o) : gMet K yX10_init cX10_init 5 none rX10_init [(.ref a0), (.long a1), (.int a3), (.int a4)] M S none o S := by
  refine gMet.of pn_X10 (Nat.le_of_ble_eq_true rfl) fun X C E => ?_
  unfold fX10_init at hf
  show GG K X 5 0 0 M S 0 [(0, .ref a0), (1, .long a1), (3, .int a3), (4, .int a4)] []
  refine GG.aload_n C dX10_init_0 0 rfl ?_
  refine GG.lload_n C dX10_init_1 1 rfl ?_
  refine GG.iload_n C dX10_init_2 2 rfl ?_
  obtain ⟨p1, hp1, hf⟩ := obd_some hf
  refine GG.c_X10_3 C rfl (gX7_init hp1) ⟨Nat.le_of_ble_eq_true rfl, Nat.le_of_ble_eq_true rfl⟩ ⟨Nat.le_of_ble_eq_true rfl, Nat.le_of_ble_eq_true rfl⟩ (Nat.le_of_ble_eq_true rfl) dX10_init_3 ?_
  refine GG.aload_n C dX10_init_6 0 rfl ?_
  refine GG.iload C dX10_init_7 3 rfl ?_
  obtain ⟨c2, hf⟩ := gd_some hf
  refine GG.px_X10_9 C rfl rfl c2 dX10_init_9 ?_
  refine GG.topM fun M3 hM3 => ?_
  have hf := ltb_s hM3 hf
  have hf := Option.some.inj hf
  subst hf
  exact GG.vret C E dX10_init_12
theorem gX11_init {K : gK} {S : Option MS}  {M : XS} {a0 : Nat} {a1 : Int64} {a3 : Int32} {o : XS} (hf : fX11_init M a0 a1 a3 = some o) : gMet K yX11_init cX11_init 4 none rX11_init [(.ref a0), (.long a1), (.int a3)] M S none o S := by
  refine gMet.of pn_X11 (Nat.le_of_ble_eq_true rfl) fun X C E => ?_
  unfold fX11_init at hf
  show GG K X 4 0 0 M S 0 [(0, .ref a0), (1, .long a1), (3, .int a3)] []
  refine GG.aload_n C dX11_init_0 0 rfl ?_
  refine GG.lload_n C dX11_init_1 1 rfl ?_
  refine GG.iload_n C dX11_init_2 2 rfl ?_
  obtain ⟨p1, hp1, hf⟩ := obd_some hf
  refine GG.c_X11_3 C rfl (gX7_init hp1) ⟨Nat.le_of_ble_eq_true rfl, Nat.le_of_ble_eq_true rfl⟩ ⟨Nat.le_of_ble_eq_true rfl, Nat.le_of_ble_eq_true rfl⟩ (Nat.le_of_ble_eq_true rfl) dX11_init_3 ?_
  have hf := Option.some.inj hf
  subst hf
  exact GG.vret C E dX11_init_6
theorem gX12_init {K : gK} {S : Option MS}  {M : XS} {a0 : Nat} {a1 : Int32} {o : XS} (hf : fX12_init M a0 a1 = some o) : gMet K yX12_init cX12_init 2 none rX12_init [(.ref a0), (.int a1)] M S none o S := by
  refine gMet.of pn_X12 (Nat.le_of_ble_eq_true rfl) fun X C E => ?_
  unfold fX12_init at hf
  show GG K X 2 0 0 M S 0 [(0, .ref a0), (1, .int a1)] []
  refine GG.aload_n C dX12_init_0 0 rfl ?_
  refine GG.objInit C q1027 q179 q180 (Nat.le_of_ble_eq_true rfl) (Nat.le_of_ble_eq_true rfl) dX12_init_1 ?_
  refine GG.aload_n C dX12_init_4 0 rfl ?_
  refine GG.iload_n C dX12_init_5 1 rfl ?_
  obtain ⟨c1, hf⟩ := gd_some hf
  refine GG.px_X12_7 C rfl rfl c1 dX12_init_6 ?_
  refine GG.topM fun M2 hM2 => ?_
  have hf := ltb_s hM2 hf
  have hf := Option.some.inj hf
  subst hf
  exact GG.vret C E dX12_init_9
theorem gX2_init {K : gK} {S : Option MS}  {M : XS} {a0 : Nat} {a1 : Nat} {o : XS} (hf : fX2_init M a0 a1 = some o) : gMet K yX2_init cX2_init 2 none rX2_init [(.ref a0), (.ref a1)] M S none o S := by
  refine gMet.of pn_X2 (Nat.le_of_ble_eq_true rfl) fun X C E => ?_
  unfold fX2_init at hf
  show GG K X 2 0 0 M S 0 [(0, .ref a0), (1, .ref a1)] []
  refine GG.aload_n C dX2_init_0 0 rfl ?_
  refine GG.sipush C dX2_init_1 sp_900 ?_
  refine GG.newA C 1 (by decide) rfl q337 (N := 900) (by decide) (by decide) (by decide) (Nat.le_of_ble_eq_true rfl) (Nat.le_of_ble_eq_true rfl) dX2_init_4 ?_
  refine GG.topx fun z1 hz1 => ?_
  have hf := ltb_s hz1 hf
  refine GG.topM fun M2 hM2 => ?_
  have hf := ltb_s hM2 hf
  refine GG.ldcS C C.gt.2.2.2.2.1 dX2_init_6 ?_
  refine GG.ldcS C C.gt.2.2.2.2.2.1 dX2_init_8 ?_
  refine GG.aload_n C dX2_init_10 1 rfl ?_
  obtain ⟨p3, hp3, hf⟩ := obd_some hf
  refine GG.c_X2_7 C rfl (gX1_init hp3) ⟨Nat.le_of_ble_eq_true rfl, Nat.le_of_ble_eq_true rfl⟩ ⟨Nat.le_of_ble_eq_true rfl, Nat.le_of_ble_eq_true rfl⟩ (Nat.le_of_ble_eq_true rfl) dX2_init_11 ?_
  refine GG.aload_n C dX2_init_14 0 rfl ?_
  refine GG.iconst C dX2_init_15 ic_3 ?_
  refine GG.newA C 0 (by decide) rfl q338 (N := 3) (by decide) (by decide) (by decide) (Nat.le_of_ble_eq_true rfl) (Nat.le_of_ble_eq_true rfl) dX2_init_16 ?_
  refine GG.topx fun z4 hz4 => ?_
  have hf := ltb_s hz4 hf
  refine GG.topM fun M5 hM5 => ?_
  have hf := ltb_s hM5 hf
  obtain ⟨c6, hf⟩ := gd_some hf
  refine GG.px_X2_13 C rfl rfl c6 (x := (some z4)) rfl dX2_init_18 ?_
  refine GG.topM fun M7 hM7 => ?_
  have hf := ltb_s hM7 hf
  have hf := Option.some.inj hf
  subst hf
  refine GG.widen (cs' := rX2_init.cells) (sl' := rX2_init.slots) (Nat.le_of_ble_eq_true rfl) (Nat.le_of_ble_eq_true rfl) ?_
  exact GG.vret C E dX2_init_21
theorem gX4_change_2 {K : gK} {X : gX} {S : Option MS} {M : XS} (C : gC K X cX4_change 4 yX4_change (some Jvm.ClassFile.FieldType.int) rX4_change)  {o : Int32} (E : gE K X (some (.int o)) M S rX4_change.cells rX4_change.slots)   :
    ∀ (n : Nat) (a0 : Nat) (a1 : Int64) (a3 : Int32), fX4_change_2 M n a0 a1 a3 = some o → GG K X 4 0 0 M S 2 [(0, .ref a0), (1, .long a1), (3, .int a3)] [] := by
  intro n
  induction n with
  | zero => intro a0 a1 a3 hf; cases hf
  | succ n ih =>
    intro a0 a1 a3 hf
    rw [fX4_change_2] at hf
    refine GG.iload_n C dX4_change_2 2 rfl ?_
    refine GG.aload_n C dX4_change_3 0 rfl ?_
    obtain ⟨c1, hf⟩ := gd_some hf
    refine GG.gx_X4_21 C rfl c1 dX4_change_4 ?_
    refine GG.icmp_ge C (tgt := 32) dX4_change_7 (by decide) (fun c2 => ?_) (fun c2 => ?_)
    · have hf := if_t hf c2
      refine GG.iconst C dX4_change_32 ic_m1 ?_
      have hf := Option.some.inj hf
      subst hf
      exact GG.iret C E dX4_change_33
    · have hf := if_f hf c2
      refine GG.aload_n C dX4_change_10 0 rfl ?_
      obtain ⟨r3, hr3, hf⟩ := obd_some hf
      refine GG.gx_X4_11 C rfl c1 hr3 dX4_change_11 ?_
      refine GG.iload_n C dX4_change_14 2 rfl ?_
      obtain ⟨r4, hr4, hf⟩ := obd_some hf
      refine GG.aald C 0 hr4 (by decide) dX4_change_15 ?_
      obtain ⟨c5, hf⟩ := gd_some hf
      refine GG.gx_X4_25 C rfl c5 dX4_change_16 ?_
      refine GG.lload_n C dX4_change_19 1 rfl ?_
      refine GG.lcmp C dX4_change_20 ?_
      refine GG.if_ne C (tgt := 26) dX4_change_21 (by decide) (fun c6 => ?_) (fun c6 => ?_)
      · have hf := if_f hf c6
        refine GG.iinc C (v := (a3 + (nI 1))) (lv' := [(3, .int (a3 + (nI 1))), (0, .ref a0), (1, .long a1)]) dX4_change_26 2 rfl (congrArg (a3 + ·) ic_1) (by decide) rfl ?_
        refine GG.goto C (tgt := 2) dX4_change_29 (by decide) ?_
        refine GG.sub [1, 2, 0] rfl ?_
        exact ih _ _ _ hf
      · have hf := if_t hf c6
        refine GG.iload_n C dX4_change_24 2 rfl ?_
        have hf := Option.some.inj hf
        subst hf
        exact GG.iret C E dX4_change_25
theorem gX4_change {K : gK} {S : Option MS}  {M : XS} {a0 : Nat} {a1 : Int64} {o : Int32} (hf : fX4_change M a0 a1 = some o) : gMet K yX4_change cX4_change 4 (some Jvm.ClassFile.FieldType.int) rX4_change [(.ref a0), (.long a1)] M S (some (.int o)) M S := by
  refine gMet.of pn_X4 (Nat.le_of_ble_eq_true rfl) fun X C E => ?_
  unfold fX4_change at hf
  show GG K X 4 0 0 M S 0 [(0, .ref a0), (1, .long a1)] []
  refine GG.iconst C dX4_change_0 ic_0 ?_
  refine GG.istore_n C (lv' := [(3, .int (nI 0)), (0, .ref a0), (1, .long a1)]) dX4_change_1 (by decide) rfl ?_
  refine GG.sub [1, 2, 0] rfl ?_
  exact gX4_change_2 C E  FU _ _ _ hf
theorem gX4_island_2 {K : gK} {X : gX} {S : Option MS} {M : XS} (C : gC K X cX4_island 4 yX4_island (some Jvm.ClassFile.FieldType.int) rX4_island)  {o : Int32} (E : gE K X (some (.int o)) M S rX4_island.cells rX4_island.slots)   :
    ∀ (n : Nat) (a0 : Nat) (a1 : Int64) (a3 : Int32), fX4_island_2 M n a0 a1 a3 = some o → GG K X 4 0 0 M S 2 [(0, .ref a0), (1, .long a1), (3, .int a3)] [] := by
  intro n
  induction n with
  | zero => intro a0 a1 a3 hf; cases hf
  | succ n ih =>
    intro a0 a1 a3 hf
    rw [fX4_island_2] at hf
    refine GG.iload_n C dX4_island_2 2 rfl ?_
    refine GG.aload_n C dX4_island_3 0 rfl ?_
    obtain ⟨c1, hf⟩ := gd_some hf
    refine GG.gx_X4_29 C rfl c1 dX4_island_4 ?_
    refine GG.icmp_ge C (tgt := 29) dX4_island_7 (by decide) (fun c2 => ?_) (fun c2 => ?_)
    · have hf := if_t hf c2
      refine GG.iconst C dX4_island_29 ic_m1 ?_
      have hf := Option.some.inj hf
      subst hf
      exact GG.iret C E dX4_island_30
    · have hf := if_f hf c2
      refine GG.aload_n C dX4_island_10 0 rfl ?_
      obtain ⟨r3, hr3, hf⟩ := obd_some hf
      refine GG.gx_X4_17 C rfl c1 hr3 dX4_island_11 ?_
      refine GG.iload_n C dX4_island_14 2 rfl ?_
      obtain ⟨v4, hv4, hf⟩ := obd_some hf
      refine GG.lald C hv4 dX4_island_15 ?_
      refine GG.lload_n C dX4_island_16 1 rfl ?_
      refine GG.lcmp C dX4_island_17 ?_
      refine GG.if_ne C (tgt := 23) dX4_island_18 (by decide) (fun c5 => ?_) (fun c5 => ?_)
      · have hf := if_f hf c5
        refine GG.iinc C (v := (a3 + (nI 1))) (lv' := [(3, .int (a3 + (nI 1))), (0, .ref a0), (1, .long a1)]) dX4_island_23 2 rfl (congrArg (a3 + ·) ic_1) (by decide) rfl ?_
        refine GG.goto C (tgt := 2) dX4_island_26 (by decide) ?_
        refine GG.sub [1, 2, 0] rfl ?_
        exact ih _ _ _ hf
      · have hf := if_t hf c5
        refine GG.iload_n C dX4_island_21 2 rfl ?_
        have hf := Option.some.inj hf
        subst hf
        exact GG.iret C E dX4_island_22
theorem gX4_island {K : gK} {S : Option MS}  {M : XS} {a0 : Nat} {a1 : Int64} {o : Int32} (hf : fX4_island M a0 a1 = some o) : gMet K yX4_island cX4_island 4 (some Jvm.ClassFile.FieldType.int) rX4_island [(.ref a0), (.long a1)] M S (some (.int o)) M S := by
  refine gMet.of pn_X4 (Nat.le_of_ble_eq_true rfl) fun X C E => ?_
  unfold fX4_island at hf
  show GG K X 4 0 0 M S 0 [(0, .ref a0), (1, .long a1)] []
  refine GG.iconst C dX4_island_0 ic_0 ?_
  refine GG.istore_n C (lv' := [(3, .int (nI 0)), (0, .ref a0), (1, .long a1)]) dX4_island_1 (by decide) rfl ?_
  refine GG.sub [1, 2, 0] rfl ?_
  exact gX4_island_2 C E  FU _ _ _ hf
theorem gX2_newName {K : gK} {S : Option MS}  {M : XS} {a0 : Nat} {o : ((Int64 × XS) ⊕ (Nat × XS))} (hf : fX2_newName M a0 = some o) : gMetX K yX2_newName cX2_newName 3 (some Jvm.ClassFile.FieldType.long) rX2_newName [(.ref a0)] M S (oL o) (oLm o) S := by
  refine gMetX.of pn_X2 (Nat.le_of_ble_eq_true rfl) fun X C E => ?_
  unfold fX2_newName at hf
  show GG K X 3 0 0 M S 0 [(0, .ref a0)] []
  refine GG.aload_n C dX2_newName_0 0 rfl ?_
  obtain ⟨c1, hf⟩ := gd_some hf
  obtain ⟨p2, hp2, hf⟩ := obd_some hf
  cases p2 with
  | inl p2 =>
    refine GG.c_X2_53l C rfl (gX1_name hp2) c1 ⟨Nat.le_of_ble_eq_true rfl, Nat.le_of_ble_eq_true rfl⟩ ⟨Nat.le_of_ble_eq_true rfl, Nat.le_of_ble_eq_true rfl⟩ (Nat.le_of_ble_eq_true rfl) dX2_newName_1 ?_
    refine GG.lstore_n C (lv' := [(1, .long p2.1), (0, .ref a0)]) dX2_newName_4 (by decide) rfl ?_
    refine GG.aload_n C dX2_newName_5 1 rfl ?_
    obtain ⟨c3, hf⟩ := gd_some hf
    obtain ⟨r4, hr4, hf⟩ := obd_some hf
    refine GG.gx_X2_39 C rfl c3 hr4 dX2_newName_6 ?_
    refine GG.lload_n C dX2_newName_9 0 rfl ?_
    obtain ⟨c5, hf⟩ := gd_some hf
    obtain ⟨v6, hv6, hf⟩ := obd_some hf
    refine GG.c_X2_57 C rfl (gX4_change hv6) c5 ⟨Nat.le_of_ble_eq_true rfl, Nat.le_of_ble_eq_true rfl⟩ ⟨Nat.le_of_ble_eq_true rfl, Nat.le_of_ble_eq_true rfl⟩ (Nat.le_of_ble_eq_true rfl) dX2_newName_10 ?_
    refine GG.iconst C dX2_newName_13 ic_m1 ?_
    refine GG.icmp_ne C (tgt := 29) dX2_newName_14 (by decide) (fun c7 => ?_) (fun c7 => ?_)
    · have hf := if_f hf c7
      refine GG.aload_n C dX2_newName_29 1 rfl ?_
      refine GG.iconst C dX2_newName_30 ic_3 ?_
      obtain ⟨p8, hp8, hf⟩ := obd_some hf
      refine GG.c_X2_64 C rfl (gX1_fail hp8) c3 ⟨Nat.le_of_ble_eq_true rfl, Nat.le_of_ble_eq_true rfl⟩ ⟨Nat.le_of_ble_eq_true rfl, Nat.le_of_ble_eq_true rfl⟩ (Nat.le_of_ble_eq_true rfl) dX2_newName_31 ?_
      obtain ⟨c9, hf⟩ := gd_some hf
      have hf := Option.some.inj hf
      subst hf
      exact GG.athrow C E (Nat.le_of_ble_eq_true rfl) (Nat.le_of_ble_eq_true rfl) c9 dX2_newName_34
    · have hf := if_t hf c7
      refine GG.aload_n C dX2_newName_17 1 rfl ?_
      obtain ⟨r10, hr10, hf⟩ := obd_some hf
      refine GG.gx_X2_39 C rfl c3 hr10 dX2_newName_18 ?_
      refine GG.lload_n C dX2_newName_21 0 rfl ?_
      obtain ⟨c11, hf⟩ := gd_some hf
      obtain ⟨v12, hv12, hf⟩ := obd_some hf
      refine GG.c_X2_61 C rfl (gX4_island hv12) c11 ⟨Nat.le_of_ble_eq_true rfl, Nat.le_of_ble_eq_true rfl⟩ ⟨Nat.le_of_ble_eq_true rfl, Nat.le_of_ble_eq_true rfl⟩ (Nat.le_of_ble_eq_true rfl) dX2_newName_22 ?_
      refine GG.iconst C dX2_newName_25 ic_m1 ?_
      refine GG.icmp_eq C (tgt := 35) dX2_newName_26 (by decide) (fun c13 => ?_) (fun c13 => ?_)
      · have hf := if_t hf c13
        refine GG.aload_n C dX2_newName_35 1 rfl ?_
        obtain ⟨p14, hp14, hf⟩ := obd_some hf
        refine GG.c_X2_27 C rfl (gX1_next hp14) c3 ⟨Nat.le_of_ble_eq_true rfl, Nat.le_of_ble_eq_true rfl⟩ ⟨Nat.le_of_ble_eq_true rfl, Nat.le_of_ble_eq_true rfl⟩ (Nat.le_of_ble_eq_true rfl) dX2_newName_36 ?_
        refine GG.lload_n C dX2_newName_39 0 rfl ?_
        have hf := Option.some.inj hf
        subst hf
        exact GG.lretX C E dX2_newName_40
      · have hf := if_f hf c13
        refine GG.aload_n C dX2_newName_29 1 rfl ?_
        refine GG.iconst C dX2_newName_30 ic_3 ?_
        obtain ⟨p15, hp15, hf⟩ := obd_some hf
        refine GG.c_X2_64 C rfl (gX1_fail hp15) c3 ⟨Nat.le_of_ble_eq_true rfl, Nat.le_of_ble_eq_true rfl⟩ ⟨Nat.le_of_ble_eq_true rfl, Nat.le_of_ble_eq_true rfl⟩ (Nat.le_of_ble_eq_true rfl) dX2_newName_31 ?_
        obtain ⟨c16, hf⟩ := gd_some hf
        have hf := Option.some.inj hf
        subst hf
        exact GG.athrow C E (Nat.le_of_ble_eq_true rfl) (Nat.le_of_ble_eq_true rfl) c16 dX2_newName_34
  | inr p2 =>
    obtain ⟨c17, hf⟩ := gd_some hf
    have hf := Option.some.inj hf
    subst hf
    exact GG.c_X2_53r C rfl (gX1_name hp2) c1 ⟨Nat.le_of_ble_eq_true rfl, Nat.le_of_ble_eq_true rfl⟩ ⟨Nat.le_of_ble_eq_true rfl, Nat.le_of_ble_eq_true rfl⟩ (Nat.le_of_ble_eq_true rfl) dX2_newName_1 c17 E ⟨Nat.le_of_ble_eq_true rfl, Nat.le_of_ble_eq_true rfl⟩
theorem gX8_init {K : gK} {S : Option MS}  {M : XS} {a0 : Nat} {a1 : Int64} {a3 : Int32} {o : XS} (hf : fX8_init M a0 a1 a3 = some o) : gMet K yX8_init cX8_init 4 none rX8_init [(.ref a0), (.long a1), (.int a3)] M S none o S := by
  refine gMet.of pn_X8 (Nat.le_of_ble_eq_true rfl) fun X C E => ?_
  unfold fX8_init at hf
  show GG K X 4 0 0 M S 0 [(0, .ref a0), (1, .long a1), (3, .int a3)] []
  refine GG.aload_n C dX8_init_0 0 rfl ?_
  refine GG.lload_n C dX8_init_1 1 rfl ?_
  refine GG.iload_n C dX8_init_2 2 rfl ?_
  obtain ⟨p1, hp1, hf⟩ := obd_some hf
  refine GG.c_X8_3 C rfl (gX7_init hp1) ⟨Nat.le_of_ble_eq_true rfl, Nat.le_of_ble_eq_true rfl⟩ ⟨Nat.le_of_ble_eq_true rfl, Nat.le_of_ble_eq_true rfl⟩ (Nat.le_of_ble_eq_true rfl) dX8_init_3 ?_
  have hf := Option.some.inj hf
  subst hf
  exact GG.vret C E dX8_init_6
theorem gX2_word {K : gK} {S : Option MS}  {M : XS} {a0 : Nat} {a1 : Int32} {o : (XS ⊕ (Nat × XS))} (hf : fX2_word M a0 a1 = some o) : gMetX K yX2_word cX2_word 2 none rX2_word [(.ref a0), (.int a1)] M S (oV o) (oVm o) S := by
  refine gMetX.of pn_X2 (Nat.le_of_ble_eq_true rfl) fun X C E => ?_
  unfold fX2_word at hf
  show GG K X 2 0 0 M S 0 [(0, .ref a0), (1, .int a1)] []
  refine GG.aload_n C dX2_word_0 0 rfl ?_
  refine GG.aload_n C dX2_word_1 0 rfl ?_
  obtain ⟨c1, hf⟩ := gd_some hf
  obtain ⟨v2, hv2, hf⟩ := obd_some hf
  refine GG.c_X2_19 C rfl (gX1_key hv2) c1 ⟨Nat.le_of_ble_eq_true rfl, Nat.le_of_ble_eq_true rfl⟩ ⟨Nat.le_of_ble_eq_true rfl, Nat.le_of_ble_eq_true rfl⟩ (Nat.le_of_ble_eq_true rfl) dX2_word_2 ?_
  refine GG.iload_n C dX2_word_5 1 rfl ?_
  refine GG.icmp_ne C (tgt := 13) dX2_word_6 (by decide) (fun c3 => ?_) (fun c3 => ?_)
  · have hf := if_f hf c3
    refine GG.iconst C dX2_word_13 ic_0 ?_
    obtain ⟨p4, hp4, hf⟩ := obd_some hf
    cases p4 with
    | inl p4 =>
      refine GG.c_X2_23l C rfl (gX1_need hp4) c1 ⟨Nat.le_of_ble_eq_true rfl, Nat.le_of_ble_eq_true rfl⟩ ⟨Nat.le_of_ble_eq_true rfl, Nat.le_of_ble_eq_true rfl⟩ (Nat.le_of_ble_eq_true rfl) dX2_word_14 ?_
      refine GG.aload_n C dX2_word_17 0 rfl ?_
      obtain ⟨c5, hf⟩ := gd_some hf
      obtain ⟨p6, hp6, hf⟩ := obd_some hf
      refine GG.c_X2_27 C rfl (gX1_next hp6) c5 ⟨Nat.le_of_ble_eq_true rfl, Nat.le_of_ble_eq_true rfl⟩ ⟨Nat.le_of_ble_eq_true rfl, Nat.le_of_ble_eq_true rfl⟩ (Nat.le_of_ble_eq_true rfl) dX2_word_18 ?_
      have hf := Option.some.inj hf
      subst hf
      exact GG.vretX C E dX2_word_21
    | inr p4 =>
      obtain ⟨c7, hf⟩ := gd_some hf
      have hf := Option.some.inj hf
      subst hf
      exact GG.c_X2_23r C rfl (gX1_need hp4) c1 ⟨Nat.le_of_ble_eq_true rfl, Nat.le_of_ble_eq_true rfl⟩ ⟨Nat.le_of_ble_eq_true rfl, Nat.le_of_ble_eq_true rfl⟩ (Nat.le_of_ble_eq_true rfl) dX2_word_14 c7 E ⟨Nat.le_of_ble_eq_true rfl, Nat.le_of_ble_eq_true rfl⟩
  · have hf := if_t hf c3
    refine GG.iconst C dX2_word_9 ic_1 ?_
    refine GG.goto C (tgt := 14) dX2_word_10 (by decide) ?_
    obtain ⟨p8, hp8, hf⟩ := obd_some hf
    cases p8 with
    | inl p8 =>
      refine GG.c_X2_23l C rfl (gX1_need hp8) c1 ⟨Nat.le_of_ble_eq_true rfl, Nat.le_of_ble_eq_true rfl⟩ ⟨Nat.le_of_ble_eq_true rfl, Nat.le_of_ble_eq_true rfl⟩ (Nat.le_of_ble_eq_true rfl) dX2_word_14 ?_
      refine GG.aload_n C dX2_word_17 0 rfl ?_
      obtain ⟨c9, hf⟩ := gd_some hf
      obtain ⟨p10, hp10, hf⟩ := obd_some hf
      refine GG.c_X2_27 C rfl (gX1_next hp10) c9 ⟨Nat.le_of_ble_eq_true rfl, Nat.le_of_ble_eq_true rfl⟩ ⟨Nat.le_of_ble_eq_true rfl, Nat.le_of_ble_eq_true rfl⟩ (Nat.le_of_ble_eq_true rfl) dX2_word_18 ?_
      have hf := Option.some.inj hf
      subst hf
      exact GG.vretX C E dX2_word_21
    | inr p8 =>
      obtain ⟨c11, hf⟩ := gd_some hf
      have hf := Option.some.inj hf
      subst hf
      exact GG.c_X2_23r C rfl (gX1_need hp8) c1 ⟨Nat.le_of_ble_eq_true rfl, Nat.le_of_ble_eq_true rfl⟩ ⟨Nat.le_of_ble_eq_true rfl, Nat.le_of_ble_eq_true rfl⟩ (Nat.le_of_ble_eq_true rfl) dX2_word_14 c11 E ⟨Nat.le_of_ble_eq_true rfl, Nat.le_of_ble_eq_true rfl⟩
theorem gX2_told {K : gK} {S : Option MS}  {M : XS} {a0 : Nat} {o : ((Int32 × XS) ⊕ (Nat × XS))} (hf : fX2_told M a0 = some o) : gMetX K yX2_told cX2_told 1 (some Jvm.ClassFile.FieldType.int) rX2_told [(.ref a0)] M S (oI o) (oIm o) S := by
  refine gMetX.of pn_X2 (Nat.le_of_ble_eq_true rfl) fun X C E => ?_
  unfold fX2_told at hf
  show GG K X 1 0 0 M S 0 [(0, .ref a0)] []
  refine GG.aload_n C dX2_told_0 0 rfl ?_
  refine GG.iconst C dX2_told_1 ic_0 ?_
  refine GG.sipush C dX2_told_2 sp_9999 ?_
  obtain ⟨c1, hf⟩ := gd_some hf
  obtain ⟨p2, hp2, hf⟩ := obd_some hf
  cases p2 with
  | inl p2 =>
    refine GG.c_X2_68l C rfl (gX1_passed hp2) c1 ⟨Nat.le_of_ble_eq_true rfl, Nat.le_of_ble_eq_true rfl⟩ ⟨Nat.le_of_ble_eq_true rfl, Nat.le_of_ble_eq_true rfl⟩ (Nat.le_of_ble_eq_true rfl) dX2_told_5 ?_
    have hf := Option.some.inj hf
    subst hf
    exact GG.iretX C E dX2_told_8
  | inr p2 =>
    obtain ⟨c3, hf⟩ := gd_some hf
    have hf := Option.some.inj hf
    subst hf
    exact GG.c_X2_68r C rfl (gX1_passed hp2) c1 ⟨Nat.le_of_ble_eq_true rfl, Nat.le_of_ble_eq_true rfl⟩ ⟨Nat.le_of_ble_eq_true rfl, Nat.le_of_ble_eq_true rfl⟩ (Nat.le_of_ble_eq_true rfl) dX2_told_5 c3 E ⟨Nat.le_of_ble_eq_true rfl, Nat.le_of_ble_eq_true rfl⟩
theorem gX2_aPut {K : gK} {S : Option MS}  {M : XS} {a0 : Nat} {a1 : Int64} {o : ((Nat × XS) ⊕ (Nat × XS))} (hf : fX2_aPut M a0 a1 = some o) : gMetX K yX2_aPut cX2_aPut 4 (some (Jvm.ClassFile.FieldType.object "SwapBook$Change")) rX2_aPut [(.ref a0), (.long a1)] M S (oR o) (oRm o) S := by
  refine gMetX.of pn_X2 (Nat.le_of_ble_eq_true rfl) fun X C E => ?_
  unfold fX2_aPut at hf
  show GG K X 4 0 0 M S 0 [(0, .ref a0), (1, .long a1)] []
  refine GG.new C (ci := 0) (r := (RX8, TX8, 10)) rfl q794 q795 q166 (Nat.le_of_ble_eq_true rfl) (Nat.le_of_ble_eq_true rfl) dX2_aPut_0 ?_
  refine GG.topx fun z1 hz1 => ?_
  have hf := ltb_s hz1 hf
  refine GG.topM fun M2 hM2 => ?_
  have hf := ltb_s hM2 hf
  refine GG.dup C dX2_aPut_3 rfl ?_
  refine GG.lload_n C dX2_aPut_4 1 rfl ?_
  refine GG.aload_n C dX2_aPut_5 0 rfl ?_
  obtain ⟨c3, hf⟩ := gd_some hf
  obtain ⟨r4, hr4, hf⟩ := obd_some hf
  refine GG.gx_X2_39 C rfl c3 hr4 dX2_aPut_6 ?_
  obtain ⟨c5, hf⟩ := gd_some hf
  refine GG.gx_X2_75 C rfl c5 dX2_aPut_9 ?_
  obtain ⟨p6, hp6, hf⟩ := obd_some hf
  refine GG.c_X2_105 C rfl (gX8_init hp6) ⟨Nat.le_of_ble_eq_true rfl, Nat.le_of_ble_eq_true rfl⟩ ⟨Nat.le_of_ble_eq_true rfl, Nat.le_of_ble_eq_true rfl⟩ (Nat.le_of_ble_eq_true rfl) dX2_aPut_12 ?_
  refine GG.astore_n C (lv' := [(3, .ref z1), (0, .ref a0), (1, .long a1)]) dX2_aPut_15 (by decide) rfl ?_
  refine GG.aload_n C dX2_aPut_16 1 rfl ?_
  refine GG.bipush C dX2_aPut_17 bp_6 ?_
  obtain ⟨c7, hf⟩ := gd_some hf
  obtain ⟨p8, hp8, hf⟩ := obd_some hf
  cases p8 with
  | inl p8 =>
    refine GG.c_X2_108l C rfl (gX2_word hp8) c7 ⟨Nat.le_of_ble_eq_true rfl, Nat.le_of_ble_eq_true rfl⟩ ⟨Nat.le_of_ble_eq_true rfl, Nat.le_of_ble_eq_true rfl⟩ (Nat.le_of_ble_eq_true rfl) dX2_aPut_19 ?_
    refine GG.aload_n C dX2_aPut_22 0 rfl ?_
    refine GG.aload_n C dX2_aPut_23 1 rfl ?_
    obtain ⟨c9, hf⟩ := gd_some hf
    obtain ⟨p10, hp10, hf⟩ := obd_some hf
    cases p10 with
    | inl p10 =>
      refine GG.c_X2_111l C rfl (gX2_told hp10) c9 ⟨Nat.le_of_ble_eq_true rfl, Nat.le_of_ble_eq_true rfl⟩ ⟨Nat.le_of_ble_eq_true rfl, Nat.le_of_ble_eq_true rfl⟩ (Nat.le_of_ble_eq_true rfl) dX2_aPut_24 ?_
      obtain ⟨c11, hf⟩ := gd_some hf
      refine GG.px_X2_114 C rfl c11 dX2_aPut_27 ?_
      refine GG.topM fun M12 hM12 => ?_
      have hf := ltb_s hM12 hf
      refine GG.aload_n C dX2_aPut_30 1 rfl ?_
      refine GG.bipush C dX2_aPut_31 bp_7 ?_
      obtain ⟨c13, hf⟩ := gd_some hf
      obtain ⟨p14, hp14, hf⟩ := obd_some hf
      cases p14 with
      | inl p14 =>
        refine GG.c_X2_108l C rfl (gX2_word hp14) c13 ⟨Nat.le_of_ble_eq_true rfl, Nat.le_of_ble_eq_true rfl⟩ ⟨Nat.le_of_ble_eq_true rfl, Nat.le_of_ble_eq_true rfl⟩ (Nat.le_of_ble_eq_true rfl) dX2_aPut_33 ?_
        refine GG.aload_n C dX2_aPut_36 0 rfl ?_
        refine GG.aload_n C dX2_aPut_37 1 rfl ?_
        obtain ⟨c15, hf⟩ := gd_some hf
        obtain ⟨p16, hp16, hf⟩ := obd_some hf
        cases p16 with
        | inl p16 =>
          refine GG.c_X2_111l C rfl (gX2_told hp16) c15 ⟨Nat.le_of_ble_eq_true rfl, Nat.le_of_ble_eq_true rfl⟩ ⟨Nat.le_of_ble_eq_true rfl, Nat.le_of_ble_eq_true rfl⟩ (Nat.le_of_ble_eq_true rfl) dX2_aPut_38 ?_
          obtain ⟨c17, hf⟩ := gd_some hf
          refine GG.px_X2_116 C rfl c17 dX2_aPut_41 ?_
          refine GG.topM fun M18 hM18 => ?_
          have hf := ltb_s hM18 hf
          refine GG.aload_n C dX2_aPut_44 0 rfl ?_
          have hf := Option.some.inj hf
          subst hf
          refine GG.widen (cs' := rX2_aPut.cells) (sl' := rX2_aPut.slots) (Nat.le_of_ble_eq_true rfl) (Nat.le_of_ble_eq_true rfl) ?_
          exact GG.aretX C (Or.inl ⟨_, rfl⟩) E dX2_aPut_45
        | inr p16 =>
          obtain ⟨c19, hf⟩ := gd_some hf
          have hf := Option.some.inj hf
          subst hf
          exact GG.c_X2_111r C rfl (gX2_told hp16) c15 ⟨Nat.le_of_ble_eq_true rfl, Nat.le_of_ble_eq_true rfl⟩ ⟨Nat.le_of_ble_eq_true rfl, Nat.le_of_ble_eq_true rfl⟩ (Nat.le_of_ble_eq_true rfl) dX2_aPut_38 c19 E ⟨Nat.le_of_ble_eq_true rfl, Nat.le_of_ble_eq_true rfl⟩
      | inr p14 =>
        obtain ⟨c20, hf⟩ := gd_some hf
        have hf := Option.some.inj hf
        subst hf
        exact GG.c_X2_108r C rfl (gX2_word hp14) c13 ⟨Nat.le_of_ble_eq_true rfl, Nat.le_of_ble_eq_true rfl⟩ ⟨Nat.le_of_ble_eq_true rfl, Nat.le_of_ble_eq_true rfl⟩ (Nat.le_of_ble_eq_true rfl) dX2_aPut_33 c20 E ⟨Nat.le_of_ble_eq_true rfl, Nat.le_of_ble_eq_true rfl⟩
    | inr p10 =>
      obtain ⟨c21, hf⟩ := gd_some hf
      have hf := Option.some.inj hf
      subst hf
      exact GG.c_X2_111r C rfl (gX2_told hp10) c9 ⟨Nat.le_of_ble_eq_true rfl, Nat.le_of_ble_eq_true rfl⟩ ⟨Nat.le_of_ble_eq_true rfl, Nat.le_of_ble_eq_true rfl⟩ (Nat.le_of_ble_eq_true rfl) dX2_aPut_24 c21 E ⟨Nat.le_of_ble_eq_true rfl, Nat.le_of_ble_eq_true rfl⟩
  | inr p8 =>
    obtain ⟨c22, hf⟩ := gd_some hf
    have hf := Option.some.inj hf
    subst hf
    exact GG.c_X2_108r C rfl (gX2_word hp8) c7 ⟨Nat.le_of_ble_eq_true rfl, Nat.le_of_ble_eq_true rfl⟩ ⟨Nat.le_of_ble_eq_true rfl, Nat.le_of_ble_eq_true rfl⟩ (Nat.le_of_ble_eq_true rfl) dX2_aPut_19 c22 E ⟨Nat.le_of_ble_eq_true rfl, Nat.le_of_ble_eq_true rfl⟩
theorem gX9_init {K : gK} {S : Option MS}  {M : XS} {a0 : Nat} {a1 : Int64} {a3 : Int32} {o : XS} (hf : fX9_init M a0 a1 a3 = some o) : gMet K yX9_init cX9_init 4 none rX9_init [(.ref a0), (.long a1), (.int a3)] M S none o S := by
  refine gMet.of pn_X9 (Nat.le_of_ble_eq_true rfl) fun X C E => ?_
  unfold fX9_init at hf
  show GG K X 4 0 0 M S 0 [(0, .ref a0), (1, .long a1), (3, .int a3)] []
  refine GG.aload_n C dX9_init_0 0 rfl ?_
  refine GG.lload_n C dX9_init_1 1 rfl ?_
  refine GG.iload_n C dX9_init_2 2 rfl ?_
  obtain ⟨p1, hp1, hf⟩ := obd_some hf
  refine GG.c_X9_3 C rfl (gX7_init hp1) ⟨Nat.le_of_ble_eq_true rfl, Nat.le_of_ble_eq_true rfl⟩ ⟨Nat.le_of_ble_eq_true rfl, Nat.le_of_ble_eq_true rfl⟩ (Nat.le_of_ble_eq_true rfl) dX9_init_3 ?_
  have hf := Option.some.inj hf
  subst hf
  exact GG.vret C E dX9_init_6
theorem gX2_aChange {K : gK} {S : Option MS}  {M : XS} {a0 : Nat} {o : ((Int32 × XS) ⊕ (Nat × XS))} (hf : fX2_aChange M a0 = some o) : gMetX K yX2_aChange cX2_aChange 2 (some Jvm.ClassFile.FieldType.int) rX2_aChange [(.ref a0)] M S (oI o) (oIm o) S := by
  refine gMetX.of pn_X2 (Nat.le_of_ble_eq_true rfl) fun X C E => ?_
  unfold fX2_aChange at hf
  show GG K X 2 0 0 M S 0 [(0, .ref a0)] []
  refine GG.aload_n C dX2_aChange_0 0 rfl ?_
  obtain ⟨c1, hf⟩ := gd_some hf
  obtain ⟨r2, hr2, hf⟩ := obd_some hf
  refine GG.gx_X2_39 C rfl c1 hr2 dX2_aChange_1 ?_
  refine GG.aload_n C dX2_aChange_4 0 rfl ?_
  obtain ⟨p3, hp3, hf⟩ := obd_some hf
  cases p3 with
  | inl p3 =>
    refine GG.c_X2_53l C rfl (gX1_name hp3) c1 ⟨Nat.le_of_ble_eq_true rfl, Nat.le_of_ble_eq_true rfl⟩ ⟨Nat.le_of_ble_eq_true rfl, Nat.le_of_ble_eq_true rfl⟩ (Nat.le_of_ble_eq_true rfl) dX2_aChange_5 ?_
    obtain ⟨c4, hf⟩ := gd_some hf
    obtain ⟨v5, hv5, hf⟩ := obd_some hf
    refine GG.c_X2_57 C rfl (gX4_change hv5) c4 ⟨Nat.le_of_ble_eq_true rfl, Nat.le_of_ble_eq_true rfl⟩ ⟨Nat.le_of_ble_eq_true rfl, Nat.le_of_ble_eq_true rfl⟩ (Nat.le_of_ble_eq_true rfl) dX2_aChange_8 ?_
    refine GG.istore_n C (lv' := [(1, .int v5), (0, .ref a0)]) dX2_aChange_11 (by decide) rfl ?_
    refine GG.iload_n C dX2_aChange_12 0 rfl ?_
    refine GG.iconst C dX2_aChange_13 ic_m1 ?_
    refine GG.icmp_ne C (tgt := 23) dX2_aChange_14 (by decide) (fun c6 => ?_) (fun c6 => ?_)
    · have hf := if_f hf c6
      refine GG.iload_n C dX2_aChange_23 0 rfl ?_
      have hf := Option.some.inj hf
      subst hf
      exact GG.iretX C E dX2_aChange_24
    · have hf := if_t hf c6
      refine GG.aload_n C dX2_aChange_17 1 rfl ?_
      refine GG.iconst C dX2_aChange_18 ic_3 ?_
      obtain ⟨c7, hf⟩ := gd_some hf
      obtain ⟨p8, hp8, hf⟩ := obd_some hf
      refine GG.c_X2_64 C rfl (gX1_fail hp8) c7 ⟨Nat.le_of_ble_eq_true rfl, Nat.le_of_ble_eq_true rfl⟩ ⟨Nat.le_of_ble_eq_true rfl, Nat.le_of_ble_eq_true rfl⟩ (Nat.le_of_ble_eq_true rfl) dX2_aChange_19 ?_
      obtain ⟨c9, hf⟩ := gd_some hf
      have hf := Option.some.inj hf
      subst hf
      exact GG.athrow C E (Nat.le_of_ble_eq_true rfl) (Nat.le_of_ble_eq_true rfl) c9 dX2_aChange_22
  | inr p3 =>
    obtain ⟨c10, hf⟩ := gd_some hf
    have hf := Option.some.inj hf
    subst hf
    exact GG.c_X2_53r C rfl (gX1_name hp3) c1 ⟨Nat.le_of_ble_eq_true rfl, Nat.le_of_ble_eq_true rfl⟩ ⟨Nat.le_of_ble_eq_true rfl, Nat.le_of_ble_eq_true rfl⟩ (Nat.le_of_ble_eq_true rfl) dX2_aChange_5 c10 E ⟨Nat.le_of_ble_eq_true rfl, Nat.le_of_ble_eq_true rfl⟩
theorem gX2_ofTwo {K : gK} {S : Option MS}  {M : XS} {a0 : Nat} {o : ((Int32 × XS) ⊕ (Nat × XS))} (hf : fX2_ofTwo M a0 = some o) : gMetX K yX2_ofTwo cX2_ofTwo 2 (some Jvm.ClassFile.FieldType.int) rX2_ofTwo [(.ref a0)] M S (oI o) (oIm o) S := by
  refine gMetX.of pn_X2 (Nat.le_of_ble_eq_true rfl) fun X C E => ?_
  unfold fX2_ofTwo at hf
  show GG K X 2 0 0 M S 0 [(0, .ref a0)] []
  refine GG.aload_n C dX2_ofTwo_0 0 rfl ?_
  obtain ⟨c1, hf⟩ := gd_some hf
  obtain ⟨p2, hp2, hf⟩ := obd_some hf
  cases p2 with
  | inl p2 =>
    refine GG.c_X2_127l C rfl (gX2_aChange hp2) c1 ⟨Nat.le_of_ble_eq_true rfl, Nat.le_of_ble_eq_true rfl⟩ ⟨Nat.le_of_ble_eq_true rfl, Nat.le_of_ble_eq_true rfl⟩ (Nat.le_of_ble_eq_true rfl) dX2_ofTwo_1 ?_
    refine GG.istore_n C (lv' := [(1, .int p2.1), (0, .ref a0)]) dX2_ofTwo_4 (by decide) rfl ?_
    refine GG.aload_n C dX2_ofTwo_5 1 rfl ?_
    obtain ⟨c3, hf⟩ := gd_some hf
    obtain ⟨r4, hr4, hf⟩ := obd_some hf
    refine GG.gx_X2_39 C rfl c3 hr4 dX2_ofTwo_6 ?_
    obtain ⟨c5, hf⟩ := gd_some hf
    obtain ⟨r6, hr6, hf⟩ := obd_some hf
    refine GG.gx_X2_130 C rfl c5 hr6 dX2_ofTwo_9 ?_
    refine GG.iload_n C dX2_ofTwo_12 0 rfl ?_
    obtain ⟨r7, hr7, hf⟩ := obd_some hf
    refine GG.aald C 0 hr7 (by decide) dX2_ofTwo_13 ?_
    obtain ⟨c8, hf⟩ := gd_some hf
    obtain ⟨v9, hv9, hf⟩ := obd_some hf
    refine GG.d_X2_134 C rfl hv9 ⟨Nat.le_of_ble_eq_true rfl, Nat.le_of_ble_eq_true rfl⟩ (Nat.le_of_ble_eq_true rfl) (Nat.le_of_ble_eq_true rfl) (Nat.le_of_ble_eq_true rfl) dX2_ofTwo_14 ?_
    refine GG.if_eq C (tgt := 36) dX2_ofTwo_17 (by decide) (fun c10 => ?_) (fun c10 => ?_)
    · have hf := if_t hf c10
      refine GG.aload_n C dX2_ofTwo_36 1 rfl ?_
      refine GG.iconst C dX2_ofTwo_37 ic_5 ?_
      obtain ⟨p11, hp11, hf⟩ := obd_some hf
      refine GG.c_X2_64 C rfl (gX1_fail hp11) c3 ⟨Nat.le_of_ble_eq_true rfl, Nat.le_of_ble_eq_true rfl⟩ ⟨Nat.le_of_ble_eq_true rfl, Nat.le_of_ble_eq_true rfl⟩ (Nat.le_of_ble_eq_true rfl) dX2_ofTwo_38 ?_
      obtain ⟨c12, hf⟩ := gd_some hf
      have hf := Option.some.inj hf
      subst hf
      exact GG.athrow C E (Nat.le_of_ble_eq_true rfl) (Nat.le_of_ble_eq_true rfl) c12 dX2_ofTwo_41
    · have hf := if_f hf c10
      refine GG.aload_n C dX2_ofTwo_20 1 rfl ?_
      obtain ⟨r13, hr13, hf⟩ := obd_some hf
      refine GG.gx_X2_39 C rfl c3 hr13 dX2_ofTwo_21 ?_
      obtain ⟨c14, hf⟩ := gd_some hf
      obtain ⟨r15, hr15, hf⟩ := obd_some hf
      refine GG.gx_X2_130 C rfl c14 hr15 dX2_ofTwo_24 ?_
      refine GG.iload_n C dX2_ofTwo_27 0 rfl ?_
      obtain ⟨r16, hr16, hf⟩ := obd_some hf
      refine GG.aald C 0 hr16 (by decide) dX2_ofTwo_28 ?_
      obtain ⟨c17, hf⟩ := gd_some hf
      obtain ⟨v18, hv18, hf⟩ := obd_some hf
      refine GG.d_X2_134 C rfl hv18 ⟨Nat.le_of_ble_eq_true rfl, Nat.le_of_ble_eq_true rfl⟩ (Nat.le_of_ble_eq_true rfl) (Nat.le_of_ble_eq_true rfl) (Nat.le_of_ble_eq_true rfl) dX2_ofTwo_29 ?_
      refine GG.iconst C dX2_ofTwo_32 ic_4 ?_
      refine GG.icmp_ne C (tgt := 42) dX2_ofTwo_33 (by decide) (fun c19 => ?_) (fun c19 => ?_)
      · have hf := if_f hf c19
        refine GG.iload_n C dX2_ofTwo_42 0 rfl ?_
        have hf := Option.some.inj hf
        subst hf
        exact GG.iretX C E dX2_ofTwo_43
      · have hf := if_t hf c19
        refine GG.aload_n C dX2_ofTwo_36 1 rfl ?_
        refine GG.iconst C dX2_ofTwo_37 ic_5 ?_
        obtain ⟨p20, hp20, hf⟩ := obd_some hf
        refine GG.c_X2_64 C rfl (gX1_fail hp20) c3 ⟨Nat.le_of_ble_eq_true rfl, Nat.le_of_ble_eq_true rfl⟩ ⟨Nat.le_of_ble_eq_true rfl, Nat.le_of_ble_eq_true rfl⟩ (Nat.le_of_ble_eq_true rfl) dX2_ofTwo_38 ?_
        obtain ⟨c21, hf⟩ := gd_some hf
        have hf := Option.some.inj hf
        subst hf
        exact GG.athrow C E (Nat.le_of_ble_eq_true rfl) (Nat.le_of_ble_eq_true rfl) c21 dX2_ofTwo_41
  | inr p2 =>
    obtain ⟨c22, hf⟩ := gd_some hf
    have hf := Option.some.inj hf
    subst hf
    exact GG.c_X2_127r C rfl (gX2_aChange hp2) c1 ⟨Nat.le_of_ble_eq_true rfl, Nat.le_of_ble_eq_true rfl⟩ ⟨Nat.le_of_ble_eq_true rfl, Nat.le_of_ble_eq_true rfl⟩ (Nat.le_of_ble_eq_true rfl) dX2_ofTwo_1 c22 E ⟨Nat.le_of_ble_eq_true rfl, Nat.le_of_ble_eq_true rfl⟩
theorem gX2_aSettle {K : gK} {S : Option MS}  {M : XS} {a0 : Nat} {a1 : Int64} {o : ((Nat × XS) ⊕ (Nat × XS))} (hf : fX2_aSettle M a0 a1 = some o) : gMetX K yX2_aSettle cX2_aSettle 4 (some (Jvm.ClassFile.FieldType.object "SwapBook$Change")) rX2_aSettle [(.ref a0), (.long a1)] M S (oR o) (oRm o) S := by
  refine gMetX.of pn_X2 (Nat.le_of_ble_eq_true rfl) fun X C E => ?_
  unfold fX2_aSettle at hf
  show GG K X 4 0 0 M S 0 [(0, .ref a0), (1, .long a1)] []
  refine GG.new C (ci := 3) (r := (RX9, TX9, 9)) rfl q879 q880 q167 (Nat.le_of_ble_eq_true rfl) (Nat.le_of_ble_eq_true rfl) dX2_aSettle_0 ?_
  refine GG.topx fun z1 hz1 => ?_
  have hf := ltb_s hz1 hf
  refine GG.topM fun M2 hM2 => ?_
  have hf := ltb_s hM2 hf
  refine GG.dup C dX2_aSettle_3 rfl ?_
  refine GG.lload_n C dX2_aSettle_4 1 rfl ?_
  refine GG.aload_n C dX2_aSettle_5 0 rfl ?_
  obtain ⟨c3, hf⟩ := gd_some hf
  obtain ⟨r4, hr4, hf⟩ := obd_some hf
  refine GG.gx_X2_39 C rfl c3 hr4 dX2_aSettle_6 ?_
  obtain ⟨c5, hf⟩ := gd_some hf
  refine GG.gx_X2_75 C rfl c5 dX2_aSettle_9 ?_
  obtain ⟨p6, hp6, hf⟩ := obd_some hf
  refine GG.c_X2_153 C rfl (gX9_init hp6) ⟨Nat.le_of_ble_eq_true rfl, Nat.le_of_ble_eq_true rfl⟩ ⟨Nat.le_of_ble_eq_true rfl, Nat.le_of_ble_eq_true rfl⟩ (Nat.le_of_ble_eq_true rfl) dX2_aSettle_12 ?_
  refine GG.astore_n C (lv' := [(3, .ref z1), (0, .ref a0), (1, .long a1)]) dX2_aSettle_15 (by decide) rfl ?_
  refine GG.aload_n C dX2_aSettle_16 1 rfl ?_
  refine GG.bipush C dX2_aSettle_17 bp_8 ?_
  obtain ⟨c7, hf⟩ := gd_some hf
  obtain ⟨p8, hp8, hf⟩ := obd_some hf
  cases p8 with
  | inl p8 =>
    refine GG.c_X2_108l C rfl (gX2_word hp8) c7 ⟨Nat.le_of_ble_eq_true rfl, Nat.le_of_ble_eq_true rfl⟩ ⟨Nat.le_of_ble_eq_true rfl, Nat.le_of_ble_eq_true rfl⟩ (Nat.le_of_ble_eq_true rfl) dX2_aSettle_19 ?_
    refine GG.aload_n C dX2_aSettle_22 0 rfl ?_
    refine GG.aload_n C dX2_aSettle_23 1 rfl ?_
    obtain ⟨c9, hf⟩ := gd_some hf
    obtain ⟨p10, hp10, hf⟩ := obd_some hf
    cases p10 with
    | inl p10 =>
      refine GG.c_X2_154l C rfl (gX2_ofTwo hp10) c9 ⟨Nat.le_of_ble_eq_true rfl, Nat.le_of_ble_eq_true rfl⟩ ⟨Nat.le_of_ble_eq_true rfl, Nat.le_of_ble_eq_true rfl⟩ (Nat.le_of_ble_eq_true rfl) dX2_aSettle_24 ?_
      obtain ⟨c11, hf⟩ := gd_some hf
      refine GG.px_X2_157 C rfl c11 dX2_aSettle_27 ?_
      refine GG.topM fun M12 hM12 => ?_
      have hf := ltb_s hM12 hf
      refine GG.aload_n C dX2_aSettle_30 1 rfl ?_
      obtain ⟨c13, hf⟩ := gd_some hf
      obtain ⟨p14, hp14, hf⟩ := obd_some hf
      refine GG.c_X2_27 C rfl (gX1_next hp14) c13 ⟨Nat.le_of_ble_eq_true rfl, Nat.le_of_ble_eq_true rfl⟩ ⟨Nat.le_of_ble_eq_true rfl, Nat.le_of_ble_eq_true rfl⟩ (Nat.le_of_ble_eq_true rfl) dX2_aSettle_31 ?_
      refine GG.aload_n C dX2_aSettle_34 1 rfl ?_
      refine GG.bipush C dX2_aSettle_35 bp_9 ?_
      obtain ⟨c15, hf⟩ := gd_some hf
      obtain ⟨p16, hp16, hf⟩ := obd_some hf
      cases p16 with
      | inl p16 =>
        refine GG.c_X2_108l C rfl (gX2_word hp16) c15 ⟨Nat.le_of_ble_eq_true rfl, Nat.le_of_ble_eq_true rfl⟩ ⟨Nat.le_of_ble_eq_true rfl, Nat.le_of_ble_eq_true rfl⟩ (Nat.le_of_ble_eq_true rfl) dX2_aSettle_37 ?_
        refine GG.aload_n C dX2_aSettle_40 0 rfl ?_
        refine GG.aload_n C dX2_aSettle_41 1 rfl ?_
        obtain ⟨c17, hf⟩ := gd_some hf
        obtain ⟨p18, hp18, hf⟩ := obd_some hf
        cases p18 with
        | inl p18 =>
          refine GG.c_X2_154l C rfl (gX2_ofTwo hp18) c17 ⟨Nat.le_of_ble_eq_true rfl, Nat.le_of_ble_eq_true rfl⟩ ⟨Nat.le_of_ble_eq_true rfl, Nat.le_of_ble_eq_true rfl⟩ (Nat.le_of_ble_eq_true rfl) dX2_aSettle_42 ?_
          obtain ⟨c19, hf⟩ := gd_some hf
          refine GG.px_X2_158 C rfl c19 dX2_aSettle_45 ?_
          refine GG.topM fun M20 hM20 => ?_
          have hf := ltb_s hM20 hf
          refine GG.aload_n C dX2_aSettle_48 1 rfl ?_
          obtain ⟨c21, hf⟩ := gd_some hf
          obtain ⟨r22, hr22, hf⟩ := obd_some hf
          refine GG.gx_X2_39 C rfl c21 hr22 dX2_aSettle_49 ?_
          obtain ⟨c23, hf⟩ := gd_some hf
          obtain ⟨r24, hr24, hf⟩ := obd_some hf
          refine GG.gx_X2_130 C rfl c23 hr24 dX2_aSettle_52 ?_
          refine GG.aload_n C dX2_aSettle_55 0 rfl ?_
          obtain ⟨c25, hf⟩ := gd_some hf
          refine GG.gx_X2_157 C rfl c25 dX2_aSettle_56 ?_
          obtain ⟨r26, hr26, hf⟩ := obd_some hf
          refine GG.aald C 0 hr26 (by decide) dX2_aSettle_59 ?_
          obtain ⟨c27, hf⟩ := gd_some hf
          refine GG.gx_X2_161 C rfl c27 dX2_aSettle_60 ?_
          refine GG.aload_n C dX2_aSettle_63 0 rfl ?_
          refine GG.gx_X2_158 C rfl c25 dX2_aSettle_64 ?_
          refine GG.ishr C dX2_aSettle_67 ?_
          refine GG.iconst C dX2_aSettle_68 ic_1 ?_
          refine GG.iand C dX2_aSettle_69 ?_
          refine GG.if_ne C (tgt := 79) dX2_aSettle_70 (by decide) (fun c28 => ?_) (fun c28 => ?_)
          · have hf := if_f hf c28
            refine GG.aload_n C dX2_aSettle_79 1 rfl ?_
            obtain ⟨p29, hp29, hf⟩ := obd_some hf
            refine GG.c_X2_27 C rfl (gX1_next hp29) c21 ⟨Nat.le_of_ble_eq_true rfl, Nat.le_of_ble_eq_true rfl⟩ ⟨Nat.le_of_ble_eq_true rfl, Nat.le_of_ble_eq_true rfl⟩ (Nat.le_of_ble_eq_true rfl) dX2_aSettle_80 ?_
            refine GG.aload_n C dX2_aSettle_83 0 rfl ?_
            refine GG.iconst C dX2_aSettle_84 ic_1 ?_
            refine GG.aload_n C dX2_aSettle_85 0 rfl ?_
            obtain ⟨c30, hf⟩ := gd_some hf
            refine GG.gx_X2_157 C rfl c30 dX2_aSettle_86 ?_
            refine GG.ishl C dX2_aSettle_89 ?_
            refine GG.iconst C dX2_aSettle_90 ic_1 ?_
            refine GG.aload_n C dX2_aSettle_91 0 rfl ?_
            refine GG.gx_X2_158 C rfl c30 dX2_aSettle_92 ?_
            refine GG.ishl C dX2_aSettle_95 ?_
            refine GG.ior C dX2_aSettle_96 ?_
            refine GG.px_X2_164 C rfl c30 dX2_aSettle_97 ?_
            refine GG.topM fun M31 hM31 => ?_
            have hf := ltb_s hM31 hf
            refine GG.aload_n C dX2_aSettle_100 0 rfl ?_
            refine GG.aload_n C dX2_aSettle_101 1 rfl ?_
            obtain ⟨c32, hf⟩ := gd_some hf
            obtain ⟨r33, hr33, hf⟩ := obd_some hf
            refine GG.gx_X2_39 C rfl c32 hr33 dX2_aSettle_102 ?_
            obtain ⟨c34, hf⟩ := gd_some hf
            obtain ⟨r35, hr35, hf⟩ := obd_some hf
            refine GG.gx_X2_130 C rfl c34 hr35 dX2_aSettle_105 ?_
            refine GG.aload_n C dX2_aSettle_108 0 rfl ?_
            obtain ⟨c36, hf⟩ := gd_some hf
            refine GG.gx_X2_157 C rfl c36 dX2_aSettle_109 ?_
            obtain ⟨r37, hr37, hf⟩ := obd_some hf
            refine GG.aald C 0 hr37 (by decide) dX2_aSettle_112 ?_
            obtain ⟨c38, hf⟩ := gd_some hf
            refine GG.gx_X2_145 C rfl c38 dX2_aSettle_113 ?_
            refine GG.px_X2_165 C rfl c36 dX2_aSettle_116 ?_
            refine GG.topM fun M39 hM39 => ?_
            have hf := ltb_s hM39 hf
            refine GG.aload_n C dX2_aSettle_119 0 rfl ?_
            have hf := Option.some.inj hf
            subst hf
            refine GG.widen (cs' := rX2_aSettle.cells) (sl' := rX2_aSettle.slots) (Nat.le_of_ble_eq_true rfl) (Nat.le_of_ble_eq_true rfl) ?_
            exact GG.aretX C (Or.inl ⟨_, rfl⟩) E dX2_aSettle_120
          · have hf := if_t hf c28
            refine GG.aload_n C dX2_aSettle_73 1 rfl ?_
            refine GG.iconst C dX2_aSettle_74 ic_5 ?_
            obtain ⟨p40, hp40, hf⟩ := obd_some hf
            refine GG.c_X2_64 C rfl (gX1_fail hp40) c21 ⟨Nat.le_of_ble_eq_true rfl, Nat.le_of_ble_eq_true rfl⟩ ⟨Nat.le_of_ble_eq_true rfl, Nat.le_of_ble_eq_true rfl⟩ (Nat.le_of_ble_eq_true rfl) dX2_aSettle_75 ?_
            obtain ⟨c41, hf⟩ := gd_some hf
            have hf := Option.some.inj hf
            subst hf
            exact GG.athrow C E (Nat.le_of_ble_eq_true rfl) (Nat.le_of_ble_eq_true rfl) c41 dX2_aSettle_78
        | inr p18 =>
          obtain ⟨c42, hf⟩ := gd_some hf
          have hf := Option.some.inj hf
          subst hf
          exact GG.c_X2_154r C rfl (gX2_ofTwo hp18) c17 ⟨Nat.le_of_ble_eq_true rfl, Nat.le_of_ble_eq_true rfl⟩ ⟨Nat.le_of_ble_eq_true rfl, Nat.le_of_ble_eq_true rfl⟩ (Nat.le_of_ble_eq_true rfl) dX2_aSettle_42 c42 E ⟨Nat.le_of_ble_eq_true rfl, Nat.le_of_ble_eq_true rfl⟩
      | inr p16 =>
        obtain ⟨c43, hf⟩ := gd_some hf
        have hf := Option.some.inj hf
        subst hf
        exact GG.c_X2_108r C rfl (gX2_word hp16) c15 ⟨Nat.le_of_ble_eq_true rfl, Nat.le_of_ble_eq_true rfl⟩ ⟨Nat.le_of_ble_eq_true rfl, Nat.le_of_ble_eq_true rfl⟩ (Nat.le_of_ble_eq_true rfl) dX2_aSettle_37 c43 E ⟨Nat.le_of_ble_eq_true rfl, Nat.le_of_ble_eq_true rfl⟩
    | inr p10 =>
      obtain ⟨c44, hf⟩ := gd_some hf
      have hf := Option.some.inj hf
      subst hf
      exact GG.c_X2_154r C rfl (gX2_ofTwo hp10) c9 ⟨Nat.le_of_ble_eq_true rfl, Nat.le_of_ble_eq_true rfl⟩ ⟨Nat.le_of_ble_eq_true rfl, Nat.le_of_ble_eq_true rfl⟩ (Nat.le_of_ble_eq_true rfl) dX2_aSettle_24 c44 E ⟨Nat.le_of_ble_eq_true rfl, Nat.le_of_ble_eq_true rfl⟩
  | inr p8 =>
    obtain ⟨c45, hf⟩ := gd_some hf
    have hf := Option.some.inj hf
    subst hf
    exact GG.c_X2_108r C rfl (gX2_word hp8) c7 ⟨Nat.le_of_ble_eq_true rfl, Nat.le_of_ble_eq_true rfl⟩ ⟨Nat.le_of_ble_eq_true rfl, Nat.le_of_ble_eq_true rfl⟩ (Nat.le_of_ble_eq_true rfl) dX2_aSettle_19 c45 E ⟨Nat.le_of_ble_eq_true rfl, Nat.le_of_ble_eq_true rfl⟩
