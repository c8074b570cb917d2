set_option maxRecDepth 100000
theorem gX6_number_62 {K : gK} {X : gX} {M : XS} (C : gC K X cX6_number 8 yX6_number (some Jvm.ClassFile.FieldType.long) rX6_number)  {o : (Int64 × MS)} (E : gE K X (some (.long o.1)) M (some o.2) rX6_number.cells rX6_number.slots) {k35 : MS → Int32 → Int64 → Int32 → Int32 → Option (Int64 × MS)} (hk35 : ∀ (S : MS) (a1 : Int32) (a2 : Int64) (a4 : Int32) (a5 : Int32), k35 S a1 a2 a4 a5 = some o → GG K X 8 0 0 M (some S) 35 [(0, .ref (kh K)), (1, .int a1), (2, .long a2), (4, .int a4), (5, .int a5)] []) :
    ∀ (n : Nat) (S : MS) (a1 : Int32) (a2 : Int64) (a4 : Int32) (a5 : Int32) (a6 : Int32) (a7 : Int32), fX6_number_62 k35 n S a1 a2 a4 a5 a6 a7 = some o → GG K X 8 0 0 M (some S) 62 [(0, .ref (kh K)), (1, .int a1), (2, .long a2), (4, .int a4), (5, .int a5), (6, .int a6), (7, .int a7)] [] := by
  intro n
  induction n with
  | zero => intro S a1 a2 a4 a5 a6 a7 hf; cases hf
  | succ n ih =>
    intro S a1 a2 a4 a5 a6 a7 hf
    rw [fX6_number_62] at hf
    refine GG.iload C dX6_number_62 6 rfl ?_
    refine GG.iload C dX6_number_64 5 rfl ?_
    refine GG.icmp_ge C (tgt := 119) dX6_number_66 (by decide) (fun c9 => ?_) (fun c9 => ?_)
    · have hf := if_t hf c9
      refine GG.iload C dX6_number_119 3 rfl ?_
      refine GG.iconst C dX6_number_121 ic_1 ?_
      refine GG.iload C dX6_number_122 5 rfl ?_
      refine GG.ishl C dX6_number_124 ?_
      refine GG.ior C dX6_number_125 ?_
      refine GG.topi fun x10 hx10 => ?_
      have hf := ltb_s hx10 hf
      refine GG.istore C (lv' := [(4, .int x10), (0, .ref (kh K)), (1, .int a1), (2, .long a2), (5, .int a5), (6, .int a6), (7, .int a7)]) dX6_number_126 (by decide) rfl ?_
      refine GG.iinc C (v := (a5 + (nI 1))) (lv' := [(5, .int (a5 + (nI 1))), (4, .int x10), (0, .ref (kh K)), (1, .int a1), (2, .long a2), (6, .int a6), (7, .int a7)]) dX6_number_128 4 rfl (congrArg (a5 + ·) ic_1) (by decide) rfl ?_
      refine GG.goto C (tgt := 35) dX6_number_131 (by decide) ?_
      refine GG.sub [2, 3, 4, 1, 0] rfl ?_
      exact hk35 _ _ _ _ _ hf
    · have hf := if_f hf c9
      refine GG.iload_n C dX6_number_69 1 rfl ?_
      refine GG.iload C dX6_number_70 3 rfl ?_
      refine GG.iconst C dX6_number_72 ic_m1 ?_
      refine GG.ixor C dX6_number_73 ?_
      refine GG.iand C dX6_number_74 ?_
      refine GG.iload C dX6_number_75 6 rfl ?_
      obtain ⟨v11, hv11, hf⟩ := obd_some hf
      refine GG.c_X6_302 C rfl (gX6_hasIn hv11) ⟨Nat.le_of_ble_eq_true rfl, Nat.le_of_ble_eq_true rfl⟩ ⟨Nat.le_of_ble_eq_true rfl, Nat.le_of_ble_eq_true rfl⟩ (Nat.le_of_ble_eq_true rfl) dX6_number_77 ?_
      refine GG.if_eq C (tgt := 113) dX6_number_80 (by decide) (fun c12 => ?_) (fun c12 => ?_)
      · have hf := if_t hf c12
        refine GG.iinc C (v := (a7 + (nI 1))) (lv' := [(7, .int (a7 + (nI 1))), (0, .ref (kh K)), (1, .int a1), (2, .long a2), (4, .int a4), (5, .int a5), (6, .int a6)]) dX6_number_113 6 rfl (congrArg (a7 + ·) ic_1) (by decide) rfl ?_
        refine GG.goto C (tgt := 62) dX6_number_116 (by decide) ?_
        refine GG.sub [1, 2, 3, 4, 5, 6, 0] rfl ?_
        exact ih _ _ _ _ _ _ _ hf
      · have hf := if_f hf c12
        refine GG.aload_n C dX6_number_83 0 rfl ?_
        refine GG.gm28 C rfl dX6_number_84 ?_
        refine GG.iload C dX6_number_87 6 rfl ?_
        obtain ⟨v13, hv13, hf⟩ := obd_some hf
        refine GG.mi C rfl hv13 dX6_number_89 ?_
        refine GG.iload C dX6_number_90 3 rfl ?_
        refine GG.iconst C dX6_number_92 ic_m1 ?_
        refine GG.ixor C dX6_number_93 ?_
        refine GG.iand C dX6_number_94 ?_
        refine GG.if_ne C (tgt := 113) dX6_number_95 (by decide) (fun c14 => ?_) (fun c14 => ?_)
        · have hf := if_f hf c14
          refine GG.iinc C (v := (a7 + (nI 1))) (lv' := [(7, .int (a7 + (nI 1))), (0, .ref (kh K)), (1, .int a1), (2, .long a2), (4, .int a4), (5, .int a5), (6, .int a6)]) dX6_number_113 6 rfl (congrArg (a7 + ·) ic_1) (by decide) rfl ?_
          refine GG.goto C (tgt := 62) dX6_number_116 (by decide) ?_
          refine GG.sub [1, 2, 3, 4, 5, 6, 0] rfl ?_
          exact ih _ _ _ _ _ _ _ hf
        · have hf := if_t hf c14
          refine GG.lload_n C dX6_number_98 2 rfl ?_
          refine GG.aload_n C dX6_number_99 0 rfl ?_
          refine GG.gm27 C rfl dX6_number_100 ?_
          refine GG.iload C dX6_number_103 3 rfl ?_
          refine GG.iconst C dX6_number_105 ic_1 ?_
          refine GG.iload C dX6_number_106 6 rfl ?_
          refine GG.ishl C dX6_number_108 ?_
          refine GG.ior C dX6_number_109 ?_
          obtain ⟨v15, hv15, hf⟩ := obd_some hf
          refine GG.ml C hv15 dX6_number_110 ?_
          refine GG.ladd C dX6_number_111 ?_
          refine GG.topl fun x16 hx16 => ?_
          have hf := ltb_s hx16 hf
          refine GG.lstore_n C (lv' := [(2, .long x16), (0, .ref (kh K)), (1, .int a1), (4, .int a4), (5, .int a5), (6, .int a6), (7, .int a7)]) dX6_number_112 (by decide) rfl ?_
          refine GG.iinc C (v := (a7 + (nI 1))) (lv' := [(7, .int (a7 + (nI 1))), (2, .long x16), (0, .ref (kh K)), (1, .int a1), (4, .int a4), (5, .int a5), (6, .int a6)]) dX6_number_113 6 rfl (congrArg (a7 + ·) ic_1) (by decide) rfl ?_
          refine GG.goto C (tgt := 62) dX6_number_116 (by decide) ?_
          refine GG.sub [2, 3, 1, 4, 5, 6, 0] rfl ?_
          exact ih _ _ _ _ _ _ _ hf
theorem gX6_number_35 {K : gK} {X : gX} {M : XS} (C : gC K X cX6_number 8 yX6_number (some Jvm.ClassFile.FieldType.long) rX6_number)  {o : (Int64 × MS)} (E : gE K X (some (.long o.1)) M (some o.2) rX6_number.cells rX6_number.slots)   :
    ∀ (n : Nat) (S : MS) (a1 : Int32) (a2 : Int64) (a4 : Int32) (a5 : Int32), fX6_number_35  n S a1 a2 a4 a5 = some o → GG K X 8 0 0 M (some S) 35 [(0, .ref (kh K)), (1, .int a1), (2, .long a2), (4, .int a4), (5, .int a5)] [] := by
  intro n
  induction n with
  | zero => intro S a1 a2 a4 a5 hf; cases hf
  | succ n ih =>
    intro S a1 a2 a4 a5 hf
    rw [fX6_number_35] at hf
    refine GG.iload C dX6_number_35 4 rfl ?_
    refine GG.aload_n C dX6_number_37 0 rfl ?_
    refine GG.gm20 C rfl dX6_number_38 ?_
    refine GG.bipush C dX6_number_41 bp_118 ?_
    obtain ⟨v6, hv6, hf⟩ := obd_some hf
    refine GG.mi C rfl hv6 dX6_number_43 ?_
    refine GG.icmp_ge C (tgt := 134) dX6_number_44 (by decide) (fun c7 => ?_) (fun c7 => ?_)
    · have hf := if_t hf c7
      refine GG.lload_n C dX6_number_134 2 rfl ?_
      have hf := Option.some.inj hf
      subst hf
      exact GG.lret C E dX6_number_135
    · have hf := if_f hf c7
      refine GG.aload_n C dX6_number_47 0 rfl ?_
      refine GG.gm20 C rfl dX6_number_48 ?_
      refine GG.bipush C dX6_number_51 bp_119 ?_
      refine GG.iload C dX6_number_53 4 rfl ?_
      refine GG.iadd C dX6_number_55 ?_
      obtain ⟨v8, hv8, hf⟩ := obd_some hf
      refine GG.mi C rfl hv8 dX6_number_56 ?_
      refine GG.istore C (lv' := [(6, .int v8), (0, .ref (kh K)), (1, .int a1), (2, .long a2), (4, .int a4), (5, .int a5)]) dX6_number_57 (by decide) rfl ?_
      refine GG.iconst C dX6_number_59 ic_0 ?_
      refine GG.istore C (lv' := [(7, .int (nI 0)), (6, .int v8), (0, .ref (kh K)), (1, .int a1), (2, .long a2), (4, .int a4), (5, .int a5)]) dX6_number_60 (by decide) rfl ?_
      refine GG.sub [2, 3, 4, 5, 6, 1, 0] rfl ?_
      exact gX6_number_62 C E (hk35 := ih) FU _ _ _ _ _ _ _ hf
theorem gX6_number {K : gK} {M : XS}  {S : MS} {o : (Int64 × MS)} (hf : fX6_number S = some o) : gMet K yX6_number cX6_number 8 (some Jvm.ClassFile.FieldType.long) rX6_number [(.ref (kh K))] M (some S) (some (.long o.1)) M (some o.2) := by
  refine gMet.of pn_X6 (Nat.le_of_ble_eq_true rfl) fun X C E => ?_
  unfold fX6_number at hf
  show GG K X 8 0 0 M (some S) 0 [(0, .ref (kh K))] []
  refine GG.aload_n C dX6_number_0 0 rfl ?_
  refine GG.iconst C dX6_number_1 ic_0 ?_
  refine GG.pm1 C rfl dX6_number_2 ?_
  refine GG.topS fun S1 hS1 => ?_
  have hf := ltb_s hS1 hf
  refine GG.aload_n C dX6_number_5 0 rfl ?_
  refine GG.iconst C dX6_number_6 ic_0 ?_
  refine GG.pm0 C rfl dX6_number_7 ?_
  refine GG.topS fun S2 hS2 => ?_
  have hf := ltb_s hS2 hf
  refine GG.aload_n C dX6_number_10 0 rfl ?_
  obtain ⟨v3, hv3, hf⟩ := obd_some hf
  refine GG.c_X6_397 C rfl (gX6_orderSet hv3) ⟨Nat.le_of_ble_eq_true rfl, Nat.le_of_ble_eq_true rfl⟩ ⟨Nat.le_of_ble_eq_true rfl, Nat.le_of_ble_eq_true rfl⟩ (Nat.le_of_ble_eq_true rfl) dX6_number_11 ?_
  refine GG.istore_n C (lv' := [(1, .int v3), (0, .ref (kh K))]) dX6_number_14 (by decide) rfl ?_
  refine GG.aload_n C dX6_number_15 1 rfl ?_
  refine GG.iload_n C dX6_number_16 0 rfl ?_
  refine GG.iconst C dX6_number_17 ic_m1 ?_
  refine GG.iconst C dX6_number_18 ic_m1 ?_
  obtain ⟨p4, hp4, hf⟩ := obd_some hf
  refine GG.c_X6_377 C rfl (gX6_need hp4) ⟨Nat.le_of_ble_eq_true rfl, Nat.le_of_ble_eq_true rfl⟩ ⟨Nat.le_of_ble_eq_true rfl, Nat.le_of_ble_eq_true rfl⟩ (Nat.le_of_ble_eq_true rfl) dX6_number_19 ?_
  refine GG.aload_n C dX6_number_22 1 rfl ?_
  refine GG.iload_n C dX6_number_23 0 rfl ?_
  obtain ⟨p5, hp5, hf⟩ := obd_some hf
  refine GG.c_X6_381 C rfl (gX6_countWays hp5) ⟨Nat.le_of_ble_eq_true rfl, Nat.le_of_ble_eq_true rfl⟩ ⟨Nat.le_of_ble_eq_true rfl, Nat.le_of_ble_eq_true rfl⟩ (Nat.le_of_ble_eq_true rfl) dX6_number_24 ?_
  refine GG.lconst C dX6_number_27 lc_0 ?_
  refine GG.lstore_n C (lv' := [(2, .long (lN 0)), (1, .int v3), (0, .ref (kh K))]) dX6_number_28 (by decide) rfl ?_
  refine GG.iconst C dX6_number_29 ic_0 ?_
  refine GG.istore C (lv' := [(4, .int (nI 0)), (2, .long (lN 0)), (1, .int v3), (0, .ref (kh K))]) dX6_number_30 (by decide) rfl ?_
  refine GG.iconst C dX6_number_32 ic_0 ?_
  refine GG.istore C (lv' := [(5, .int (nI 0)), (4, .int (nI 0)), (2, .long (lN 0)), (1, .int v3), (0, .ref (kh K))]) dX6_number_33 (by decide) rfl ?_
  refine GG.sub [4, 3, 2, 1, 0] rfl ?_
  exact gX6_number_35 C E  FU _ _ _ _ _ hf
theorem gX6_orderAt {K : gK} {M : XS}  {S : MS} {a1 : Int32} {o : (Int32 × MS)} (hf : fX6_orderAt S a1 = some o) : gMet K yX6_orderAt cX6_orderAt 2 (some Jvm.ClassFile.FieldType.int) rX6_orderAt [(.ref (kh K)), (.int a1)] M (some S) (some (.int o.1)) M (some o.2) := by
  refine gMet.of pn_X6 (Nat.le_of_ble_eq_true rfl) fun X C E => ?_
  unfold fX6_orderAt at hf
  show GG K X 2 0 0 M (some S) 0 [(0, .ref (kh K)), (1, .int a1)] []
  refine GG.aload_n C dX6_orderAt_0 0 rfl ?_
  refine GG.iconst C dX6_orderAt_1 ic_0 ?_
  refine GG.pm1 C rfl dX6_orderAt_2 ?_
  refine GG.topS fun S1 hS1 => ?_
  have hf := ltb_s hS1 hf
  refine GG.aload_n C dX6_orderAt_5 0 rfl ?_
  refine GG.iconst C dX6_orderAt_6 ic_0 ?_
  refine GG.pm0 C rfl dX6_orderAt_7 ?_
  refine GG.topS fun S2 hS2 => ?_
  have hf := ltb_s hS2 hf
  refine GG.iload_n C dX6_orderAt_10 1 rfl ?_
  refine GG.i2l C dX6_orderAt_11 ?_
  refine GG.lconst C dX6_orderAt_12 lc_0 ?_
  refine GG.aload_n C dX6_orderAt_13 0 rfl ?_
  refine GG.gm20 C rfl dX6_orderAt_14 ?_
  refine GG.bipush C dX6_orderAt_17 bp_118 ?_
  obtain ⟨v3, hv3, hf⟩ := obd_some hf
  refine GG.mi C rfl hv3 dX6_orderAt_19 ?_
  refine GG.iconst C dX6_orderAt_20 ic_1 ?_
  refine GG.isub C dX6_orderAt_21 ?_
  refine GG.i2l C dX6_orderAt_22 ?_
  obtain ⟨v4, hv4, hf⟩ := obd_some hf
  refine GG.c_X6_110 C rfl (gX6_isIn hv4) ⟨Nat.le_of_ble_eq_true rfl, Nat.le_of_ble_eq_true rfl⟩ ⟨Nat.le_of_ble_eq_true rfl, Nat.le_of_ble_eq_true rfl⟩ (Nat.le_of_ble_eq_true rfl) dX6_orderAt_23 ?_
  refine GG.if_eq C (tgt := 41) dX6_orderAt_26 (by decide) (fun c5 => ?_) (fun c5 => ?_)
  · have hf := if_t hf c5
    refine GG.aload_n C dX6_orderAt_41 0 rfl ?_
    refine GG.bipush C dX6_orderAt_42 bp_8 ?_
    obtain ⟨p6, hp6, hf⟩ := obd_some hf
    refine GG.c_X6_299 C rfl (gX6_refuse hp6) ⟨Nat.le_of_ble_eq_true rfl, Nat.le_of_ble_eq_true rfl⟩ ⟨Nat.le_of_ble_eq_true rfl, Nat.le_of_ble_eq_true rfl⟩ (Nat.le_of_ble_eq_true rfl) dX6_orderAt_44 ?_
    have hf := Option.some.inj hf
    subst hf
    exact GG.iret C E dX6_orderAt_47
  · have hf := if_f hf c5
    refine GG.aload_n C dX6_orderAt_29 0 rfl ?_
    refine GG.gm20 C rfl dX6_orderAt_30 ?_
    refine GG.bipush C dX6_orderAt_33 bp_119 ?_
    refine GG.iload_n C dX6_orderAt_35 1 rfl ?_
    refine GG.iadd C dX6_orderAt_36 ?_
    obtain ⟨v7, hv7, hf⟩ := obd_some hf
    refine GG.mi C rfl hv7 dX6_orderAt_37 ?_
    refine GG.goto C (tgt := 47) dX6_orderAt_38 (by decide) ?_
    have hf := Option.some.inj hf
    subst hf
    exact GG.iret C E dX6_orderAt_47
theorem gX6_acts_40 {K : gK} {X : gX} {M : XS} (C : gC K X cX6_acts 4 yX6_acts (some Jvm.ClassFile.FieldType.int) rX6_acts)  {o : (Int32 × MS)} (E : gE K X (some (.int o.1)) M (some o.2) rX6_acts.cells rX6_acts.slots)   :
    ∀ (n : Nat) (S : MS) (a1 : Int32) (a2 : Int32) (a3 : Int32), fX6_acts_40  n S a1 a2 a3 = some o → GG K X 4 0 0 M (some S) 40 [(0, .ref (kh K)), (1, .int a1), (2, .int a2), (3, .int a3)] [] := by
  intro n
  induction n with
  | zero => intro S a1 a2 a3 hf; cases hf
  | succ n ih =>
    intro S a1 a2 a3 hf
    rw [fX6_acts_40] at hf
    refine GG.iload_n C dX6_acts_40 3 rfl ?_
    refine GG.iload_n C dX6_acts_41 1 rfl ?_
    refine GG.icmp_ge C (tgt := 65) dX6_acts_42 (by decide) (fun c7 => ?_) (fun c7 => ?_)
    · have hf := if_t hf c7
      refine GG.aload_n C dX6_acts_65 0 rfl ?_
      refine GG.gm20 C rfl dX6_acts_66 ?_
      refine GG.bipush C dX6_acts_69 bp_119 ?_
      refine GG.iload_n C dX6_acts_71 1 rfl ?_
      refine GG.iadd C dX6_acts_72 ?_
      obtain ⟨v8, hv8, hf⟩ := obd_some hf
      refine GG.mi C rfl hv8 dX6_acts_73 ?_
      refine GG.istore_n C (lv' := [(3, .int v8), (0, .ref (kh K)), (1, .int a1), (2, .int a2)]) dX6_acts_74 (by decide) rfl ?_
      refine GG.aload_n C dX6_acts_75 1 rfl ?_
      refine GG.iconst C dX6_acts_76 ic_0 ?_
      refine GG.iload_n C dX6_acts_77 0 rfl ?_
      obtain ⟨v9, hv9, hf⟩ := obd_some hf
      refine GG.c_X6_239 C rfl (gX6_kind hv9) ⟨Nat.le_of_ble_eq_true rfl, Nat.le_of_ble_eq_true rfl⟩ ⟨Nat.le_of_ble_eq_true rfl, Nat.le_of_ble_eq_true rfl⟩ (Nat.le_of_ble_eq_true rfl) dX6_acts_78 ?_
      refine GG.iconst C dX6_acts_81 ic_4 ?_
      refine GG.icmp_ne C (tgt := 87) dX6_acts_82 (by decide) (fun c10 => ?_) (fun c10 => ?_)
      · have hf := if_f hf c10
        refine GG.aload_n C dX6_acts_87 1 rfl ?_
        refine GG.iconst C dX6_acts_88 ic_0 ?_
        refine GG.iload_n C dX6_acts_89 0 rfl ?_
        obtain ⟨v11, hv11, hf⟩ := obd_some hf
        refine GG.c_X6_239 C rfl (gX6_kind hv11) ⟨Nat.le_of_ble_eq_true rfl, Nat.le_of_ble_eq_true rfl⟩ ⟨Nat.le_of_ble_eq_true rfl, Nat.le_of_ble_eq_true rfl⟩ (Nat.le_of_ble_eq_true rfl) dX6_acts_90 ?_
        refine GG.if_ne C (tgt := 109) dX6_acts_93 (by decide) (fun c12 => ?_) (fun c12 => ?_)
        · have hf := if_f hf c12
          refine GG.aload_n C dX6_acts_109 1 rfl ?_
          refine GG.iload_n C dX6_acts_110 3 rfl ?_
          refine GG.aload_n C dX6_acts_111 1 rfl ?_
          refine GG.iconst C dX6_acts_112 ic_0 ?_
          refine GG.iload_n C dX6_acts_113 0 rfl ?_
          obtain ⟨v13, hv13, hf⟩ := obd_some hf
          refine GG.c_X6_246 C rfl (gX6_thingOf hv13) ⟨Nat.le_of_ble_eq_true rfl, Nat.le_of_ble_eq_true rfl⟩ ⟨Nat.le_of_ble_eq_true rfl, Nat.le_of_ble_eq_true rfl⟩ (Nat.le_of_ble_eq_true rfl) dX6_acts_114 ?_
          obtain ⟨p14, hp14, hf⟩ := obd_some hf
          refine GG.c_X6_362 C rfl (gX6_placeIn hp14) ⟨Nat.le_of_ble_eq_true rfl, Nat.le_of_ble_eq_true rfl⟩ ⟨Nat.le_of_ble_eq_true rfl, Nat.le_of_ble_eq_true rfl⟩ (Nat.le_of_ble_eq_true rfl) dX6_acts_117 ?_
          have hf := Option.some.inj hf
          subst hf
          exact GG.iret C E dX6_acts_120
        · have hf := if_t hf c12
          refine GG.aload_n C dX6_acts_96 1 rfl ?_
          refine GG.iload_n C dX6_acts_97 3 rfl ?_
          refine GG.iconst C dX6_acts_98 ic_1 ?_
          refine GG.iload_n C dX6_acts_99 0 rfl ?_
          refine GG.ishl C dX6_acts_100 ?_
          refine GG.ior C dX6_acts_101 ?_
          refine GG.iload_n C dX6_acts_102 0 rfl ?_
          obtain ⟨p15, hp15, hf⟩ := obd_some hf
          refine GG.c_X6_362 C rfl (gX6_placeIn hp15) ⟨Nat.le_of_ble_eq_true rfl, Nat.le_of_ble_eq_true rfl⟩ ⟨Nat.le_of_ble_eq_true rfl, Nat.le_of_ble_eq_true rfl⟩ (Nat.le_of_ble_eq_true rfl) dX6_acts_103 ?_
          refine GG.goto C (tgt := 120) dX6_acts_106 (by decide) ?_
          have hf := Option.some.inj hf
          subst hf
          exact GG.iret C E dX6_acts_120
      · have hf := if_t hf c10
        refine GG.iconst C dX6_acts_85 ic_m1 ?_
        have hf := Option.some.inj hf
        subst hf
        exact GG.iret C E dX6_acts_86
    · have hf := if_f hf c7
      refine GG.iload_n C dX6_acts_45 2 rfl ?_
      refine GG.iconst C dX6_acts_46 ic_1 ?_
      refine GG.aload_n C dX6_acts_47 0 rfl ?_
      refine GG.gm20 C rfl dX6_acts_48 ?_
      refine GG.bipush C dX6_acts_51 bp_119 ?_
      refine GG.iload_n C dX6_acts_53 3 rfl ?_
      refine GG.iadd C dX6_acts_54 ?_
      obtain ⟨v16, hv16, hf⟩ := obd_some hf
      refine GG.mi C rfl hv16 dX6_acts_55 ?_
      refine GG.ishl C dX6_acts_56 ?_
      refine GG.ior C dX6_acts_57 ?_
      refine GG.topi fun x17 hx17 => ?_
      have hf := ltb_s hx17 hf
      refine GG.istore_n C (lv' := [(2, .int x17), (0, .ref (kh K)), (1, .int a1), (3, .int a3)]) dX6_acts_58 (by decide) rfl ?_
      refine GG.iinc C (v := (a3 + (nI 1))) (lv' := [(3, .int (a3 + (nI 1))), (2, .int x17), (0, .ref (kh K)), (1, .int a1)]) dX6_acts_59 3 rfl (congrArg (a3 + ·) ic_1) (by decide) rfl ?_
      refine GG.goto C (tgt := 40) dX6_acts_62 (by decide) ?_
      refine GG.sub [2, 3, 1, 0] rfl ?_
      exact ih _ _ _ _ hf
theorem gX6_acts {K : gK} {M : XS}  {S : MS} {a1 : Int32} {o : (Int32 × MS)} (hf : fX6_acts S a1 = some o) : gMet K yX6_acts cX6_acts 4 (some Jvm.ClassFile.FieldType.int) rX6_acts [(.ref (kh K)), (.int a1)] M (some S) (some (.int o.1)) M (some o.2) := by
  refine gMet.of pn_X6 (Nat.le_of_ble_eq_true rfl) fun X C E => ?_
  unfold fX6_acts at hf
  show GG K X 4 0 0 M (some S) 0 [(0, .ref (kh K)), (1, .int a1)] []
  refine GG.aload_n C dX6_acts_0 0 rfl ?_
  refine GG.iconst C dX6_acts_1 ic_0 ?_
  refine GG.pm1 C rfl dX6_acts_2 ?_
  refine GG.topS fun S1 hS1 => ?_
  have hf := ltb_s hS1 hf
  refine GG.aload_n C dX6_acts_5 0 rfl ?_
  refine GG.iconst C dX6_acts_6 ic_0 ?_
  refine GG.pm0 C rfl dX6_acts_7 ?_
  refine GG.topS fun S2 hS2 => ?_
  have hf := ltb_s hS2 hf
  refine GG.iload_n C dX6_acts_10 1 rfl ?_
  refine GG.i2l C dX6_acts_11 ?_
  refine GG.lconst C dX6_acts_12 lc_0 ?_
  refine GG.aload_n C dX6_acts_13 0 rfl ?_
  refine GG.gm20 C rfl dX6_acts_14 ?_
  refine GG.bipush C dX6_acts_17 bp_118 ?_
  obtain ⟨v3, hv3, hf⟩ := obd_some hf
  refine GG.mi C rfl hv3 dX6_acts_19 ?_
  refine GG.iconst C dX6_acts_20 ic_1 ?_
  refine GG.isub C dX6_acts_21 ?_
  refine GG.i2l C dX6_acts_22 ?_
  obtain ⟨v4, hv4, hf⟩ := obd_some hf
  refine GG.c_X6_110 C rfl (gX6_isIn hv4) ⟨Nat.le_of_ble_eq_true rfl, Nat.le_of_ble_eq_true rfl⟩ ⟨Nat.le_of_ble_eq_true rfl, Nat.le_of_ble_eq_true rfl⟩ (Nat.le_of_ble_eq_true rfl) dX6_acts_23 ?_
  refine GG.if_ne C (tgt := 36) dX6_acts_26 (by decide) (fun c5 => ?_) (fun c5 => ?_)
  · have hf := if_f hf c5
    refine GG.iconst C dX6_acts_36 ic_0 ?_
    refine GG.istore_n C (lv' := [(2, .int (nI 0)), (0, .ref (kh K)), (1, .int a1)]) dX6_acts_37 (by decide) rfl ?_
    refine GG.iconst C dX6_acts_38 ic_0 ?_
    refine GG.istore_n C (lv' := [(3, .int (nI 0)), (2, .int (nI 0)), (0, .ref (kh K)), (1, .int a1)]) dX6_acts_39 (by decide) rfl ?_
    refine GG.sub [2, 3, 1, 0] rfl ?_
    exact gX6_acts_40 C E  FU _ _ _ _ hf
  · have hf := if_t hf c5
    refine GG.aload_n C dX6_acts_29 0 rfl ?_
    refine GG.bipush C dX6_acts_30 bp_8 ?_
    obtain ⟨p6, hp6, hf⟩ := obd_some hf
    refine GG.c_X6_299 C rfl (gX6_refuse hp6) ⟨Nat.le_of_ble_eq_true rfl, Nat.le_of_ble_eq_true rfl⟩ ⟨Nat.le_of_ble_eq_true rfl, Nat.le_of_ble_eq_true rfl⟩ (Nat.le_of_ble_eq_true rfl) dX6_acts_32 ?_
    have hf := Option.some.inj hf
    subst hf
    exact GG.iret C E dX6_acts_35
theorem gX6_swapped {K : gK} {M : XS}  {S : MS} {a1 : Int32} {o : (Int32 × MS)} (hf : fX6_swapped S a1 = some o) : gMet K yX6_swapped cX6_swapped 4 (some Jvm.ClassFile.FieldType.boolean) rX6_swapped [(.ref (kh K)), (.int a1)] M (some S) (some (.int o.1)) M (some o.2) := by
  refine gMet.of pn_X6 (Nat.le_of_ble_eq_true rfl) fun X C E => ?_
  unfold fX6_swapped at hf
  show GG K X 4 0 0 M (some S) 0 [(0, .ref (kh K)), (1, .int a1)] []
  refine GG.aload_n C dX6_swapped_0 0 rfl ?_
  refine GG.gm20 C rfl dX6_swapped_1 ?_
  refine GG.bipush C dX6_swapped_4 bp_119 ?_
  refine GG.iload_n C dX6_swapped_6 1 rfl ?_
  refine GG.iadd C dX6_swapped_7 ?_
  obtain ⟨v1, hv1, hf⟩ := obd_some hf
  refine GG.mi C rfl hv1 dX6_swapped_8 ?_
  refine GG.istore_n C (lv' := [(2, .int v1), (0, .ref (kh K)), (1, .int a1)]) dX6_swapped_9 (by decide) rfl ?_
  refine GG.aload_n C dX6_swapped_10 1 rfl ?_
  refine GG.gm20 C rfl dX6_swapped_11 ?_
  refine GG.bipush C dX6_swapped_14 bp_119 ?_
  refine GG.iload_n C dX6_swapped_16 2 rfl ?_
  refine GG.iadd C dX6_swapped_17 ?_
  refine GG.iconst C dX6_swapped_18 ic_1 ?_
  refine GG.iadd C dX6_swapped_19 ?_
  obtain ⟨v2, hv2, hf⟩ := obd_some hf
  refine GG.mi C rfl hv2 dX6_swapped_20 ?_
  refine GG.istore_n C (lv' := [(3, .int v2), (2, .int v1), (0, .ref (kh K)), (1, .int a1)]) dX6_swapped_21 (by decide) rfl ?_
  refine GG.aload_n C dX6_swapped_22 2 rfl ?_
  refine GG.gm20 C rfl dX6_swapped_23 ?_
  refine GG.bipush C dX6_swapped_26 bp_82 ?_
  refine GG.iload_n C dX6_swapped_28 0 rfl ?_
  refine GG.iadd C dX6_swapped_29 ?_
  obtain ⟨v3, hv3, hf⟩ := obd_some hf
  refine GG.mi C rfl hv3 dX6_swapped_30 ?_
  refine GG.iload_n C dX6_swapped_31 1 rfl ?_
  obtain ⟨v4, hv4, hf⟩ := obd_some hf
  refine GG.c_X6_302 C rfl (gX6_hasIn hv4) ⟨Nat.le_of_ble_eq_true rfl, Nat.le_of_ble_eq_true rfl⟩ ⟨Nat.le_of_ble_eq_true rfl, Nat.le_of_ble_eq_true rfl⟩ (Nat.le_of_ble_eq_true rfl) dX6_swapped_32 ?_
  refine GG.if_eq C (tgt := 40) dX6_swapped_35 (by decide) (fun c5 => ?_) (fun c5 => ?_)
  · have hf := if_t hf c5
    refine GG.aload_n C dX6_swapped_40 2 rfl ?_
    refine GG.gm20 C rfl dX6_swapped_41 ?_
    refine GG.bipush C dX6_swapped_44 bp_119 ?_
    refine GG.iload_n C dX6_swapped_46 3 rfl ?_
    refine GG.iadd C dX6_swapped_47 ?_
    refine GG.iload_n C dX6_swapped_48 0 rfl ?_
    obtain ⟨S6, hS6, hf⟩ := obd_some hf
    refine GG.mis C rfl hS6 dX6_swapped_49 ?_
    refine GG.aload_n C dX6_swapped_50 2 rfl ?_
    refine GG.gm20 C rfl dX6_swapped_51 ?_
    refine GG.bipush C dX6_swapped_54 bp_119 ?_
    refine GG.iload_n C dX6_swapped_56 3 rfl ?_
    refine GG.iadd C dX6_swapped_57 ?_
    refine GG.iconst C dX6_swapped_58 ic_1 ?_
    refine GG.iadd C dX6_swapped_59 ?_
    refine GG.iload_n C dX6_swapped_60 1 rfl ?_
    obtain ⟨S7, hS7, hf⟩ := obd_some hf
    refine GG.mis C rfl hS7 dX6_swapped_61 ?_
    refine GG.iconst C dX6_swapped_62 ic_1 ?_
    have hf := Option.some.inj hf
    subst hf
    exact GG.zret C zb_1 E dX6_swapped_63
  · have hf := if_f hf c5
    refine GG.iconst C dX6_swapped_38 ic_0 ?_
    have hf := Option.some.inj hf
    subst hf
    exact GG.zret C zb_0 E dX6_swapped_39
theorem gX6_swap {K : gK} {M : XS}  {S : MS} {a1 : Int32} {o : (Int32 × MS)} (hf : fX6_swap S a1 = some o) : gMet K yX6_swap cX6_swap 2 (some Jvm.ClassFile.FieldType.boolean) rX6_swap [(.ref (kh K)), (.int a1)] M (some S) (some (.int o.1)) M (some o.2) := by
  refine gMet.of pn_X6 (Nat.le_of_ble_eq_true rfl) fun X C E => ?_
  unfold fX6_swap at hf
  show GG K X 2 0 0 M (some S) 0 [(0, .ref (kh K)), (1, .int a1)] []
  refine GG.aload_n C dX6_swap_0 0 rfl ?_
  refine GG.iconst C dX6_swap_1 ic_0 ?_
  refine GG.pm1 C rfl dX6_swap_2 ?_
  refine GG.topS fun S1 hS1 => ?_
  have hf := ltb_s hS1 hf
  refine GG.aload_n C dX6_swap_5 0 rfl ?_
  refine GG.iconst C dX6_swap_6 ic_0 ?_
  refine GG.pm0 C rfl dX6_swap_7 ?_
  refine GG.topS fun S2 hS2 => ?_
  have hf := ltb_s hS2 hf
  refine GG.iload_n C dX6_swap_10 1 rfl ?_
  refine GG.i2l C dX6_swap_11 ?_
  refine GG.lconst C dX6_swap_12 lc_0 ?_
  refine GG.aload_n C dX6_swap_13 0 rfl ?_
  refine GG.gm20 C rfl dX6_swap_14 ?_
  refine GG.bipush C dX6_swap_17 bp_118 ?_
  obtain ⟨v3, hv3, hf⟩ := obd_some hf
  refine GG.mi C rfl hv3 dX6_swap_19 ?_
  refine GG.iconst C dX6_swap_20 ic_2 ?_
  refine GG.isub C dX6_swap_21 ?_
  refine GG.i2l C dX6_swap_22 ?_
  obtain ⟨v4, hv4, hf⟩ := obd_some hf
  refine GG.c_X6_110 C rfl (gX6_isIn hv4) ⟨Nat.le_of_ble_eq_true rfl, Nat.le_of_ble_eq_true rfl⟩ ⟨Nat.le_of_ble_eq_true rfl, Nat.le_of_ble_eq_true rfl⟩ (Nat.le_of_ble_eq_true rfl) dX6_swap_23 ?_
  refine GG.if_ne C (tgt := 36) dX6_swap_26 (by decide) (fun c5 => ?_) (fun c5 => ?_)
  · have hf := if_f hf c5
    refine GG.aload_n C dX6_swap_36 0 rfl ?_
    refine GG.iload_n C dX6_swap_37 1 rfl ?_
    obtain ⟨p6, hp6, hf⟩ := obd_some hf
    refine GG.c_X6_400 C rfl (gX6_swapped hp6) ⟨Nat.le_of_ble_eq_true rfl, Nat.le_of_ble_eq_true rfl⟩ ⟨Nat.le_of_ble_eq_true rfl, Nat.le_of_ble_eq_true rfl⟩ (Nat.le_of_ble_eq_true rfl) dX6_swap_38 ?_
    refine GG.if_ne C (tgt := 53) dX6_swap_41 (by decide) (fun c7 => ?_) (fun c7 => ?_)
    · have hf := if_f hf c7
      refine GG.iconst C dX6_swap_53 ic_1 ?_
      refine GG.goto C (tgt := 58) dX6_swap_54 (by decide) ?_
      have hf := Option.some.inj hf
      subst hf
      exact GG.zret C zb_1 E dX6_swap_58
    · have hf := if_t hf c7
      refine GG.aload_n C dX6_swap_44 0 rfl ?_
      refine GG.bipush C dX6_swap_45 bp_9 ?_
      obtain ⟨p8, hp8, hf⟩ := obd_some hf
      refine GG.c_X6_90 C rfl (gX6_no hp8) ⟨Nat.le_of_ble_eq_true rfl, Nat.le_of_ble_eq_true rfl⟩ ⟨Nat.le_of_ble_eq_true rfl, Nat.le_of_ble_eq_true rfl⟩ (Nat.le_of_ble_eq_true rfl) dX6_swap_47 ?_
      refine GG.if_eq C (tgt := 57) dX6_swap_50 (by decide) (fun c9 => ?_) (fun c9 => ?_)
      · have hf := if_t hf c9
        refine GG.iconst C dX6_swap_57 ic_0 ?_
        have hf := Option.some.inj hf
        subst hf
        exact GG.zret C zb_0 E dX6_swap_58
      · have hf := if_f hf c9
        refine GG.iconst C dX6_swap_53 ic_1 ?_
        refine GG.goto C (tgt := 58) dX6_swap_54 (by decide) ?_
        have hf := Option.some.inj hf
        subst hf
        exact GG.zret C zb_1 E dX6_swap_58
  · have hf := if_t hf c5
    refine GG.aload_n C dX6_swap_29 0 rfl ?_
    refine GG.bipush C dX6_swap_30 bp_8 ?_
    obtain ⟨p10, hp10, hf⟩ := obd_some hf
    refine GG.c_X6_90 C rfl (gX6_no hp10) ⟨Nat.le_of_ble_eq_true rfl, Nat.le_of_ble_eq_true rfl⟩ ⟨Nat.le_of_ble_eq_true rfl, Nat.le_of_ble_eq_true rfl⟩ (Nat.le_of_ble_eq_true rfl) dX6_swap_32 ?_
    obtain ⟨c11, hf⟩ := gd_some hf
    have hf := Option.some.inj hf
    subst hf
    exact GG.zret C c11 E dX6_swap_35
theorem gX6_forward_73 {K : gK} {X : gX} {M : XS} (C : gC K X cX6_forward 4 yX6_forward (some Jvm.ClassFile.FieldType.int) rX6_forward)  {o : (Int32 × MS)} (E : gE K X (some (.int o.1)) M (some o.2) rX6_forward.cells rX6_forward.slots)   :
    ∀ (n : Nat) (S : MS) (a2 : Int32) (a3 : Int32), fX6_forward_73  n S a2 a3 = some o → GG K X 4 0 0 M (some S) 73 [(0, .ref (kh K)), (2, .int a2), (3, .int a3)] [] := by
  intro n
  induction n with
  | zero => intro S a2 a3 hf; cases hf
  | succ n ih =>
    intro S a2 a3 hf
    rw [fX6_forward_73] at hf
    refine GG.iload_n C dX6_forward_73 1 rfl ?_
    refine GG.if_le C (tgt := 99) dX6_forward_74 (by decide) (fun c12 => ?_) (fun c12 => ?_)
    · have hf := if_t hf c12
      refine GG.iload_n C dX6_forward_99 1 rfl ?_
      have hf := Option.some.inj hf
      subst hf
      exact GG.iret C E dX6_forward_100
    · have hf := if_f hf c12
      refine GG.iload_n C dX6_forward_77 2 rfl ?_
      refine GG.if_eq C (tgt := 99) dX6_forward_78 (by decide) (fun c13 => ?_) (fun c13 => ?_)
      · have hf := if_t hf c13
        refine GG.iload_n C dX6_forward_99 1 rfl ?_
        have hf := Option.some.inj hf
        subst hf
        exact GG.iret C E dX6_forward_100
      · have hf := if_f hf c13
        refine GG.aload_n C dX6_forward_81 0 rfl ?_
        refine GG.iload_n C dX6_forward_82 1 rfl ?_
        refine GG.iconst C dX6_forward_83 ic_1 ?_
        refine GG.isub C dX6_forward_84 ?_
        obtain ⟨p14, hp14, hf⟩ := obd_some hf
        refine GG.c_X6_400 C rfl (gX6_swapped hp14) ⟨Nat.le_of_ble_eq_true rfl, Nat.le_of_ble_eq_true rfl⟩ ⟨Nat.le_of_ble_eq_true rfl, Nat.le_of_ble_eq_true rfl⟩ (Nat.le_of_ble_eq_true rfl) dX6_forward_85 ?_
        refine GG.istore_n C (lv' := [(3, .int p14.1), (0, .ref (kh K)), (2, .int a2)]) dX6_forward_88 (by decide) rfl ?_
        refine GG.iload_n C dX6_forward_89 0 rfl ?_
        refine GG.if_eq C (tgt := 73) dX6_forward_90 (by decide) (fun c15 => ?_) (fun c15 => ?_)
        · have hf := if_t hf c15
          refine GG.sub [1, 2, 0] rfl ?_
          exact ih _ _ _ hf
        · have hf := if_f hf c15
          refine GG.iinc C (v := (a2 + (-1 : Int32))) (lv' := [(2, .int (a2 + (-1 : Int32))), (3, .int p14.1), (0, .ref (kh K))]) dX6_forward_93 2 rfl (congrArg (a2 + ·) ic_m1) (by decide) rfl ?_
          refine GG.goto C (tgt := 73) dX6_forward_96 (by decide) ?_
          refine GG.sub [2, 0, 1] rfl ?_
          exact ih _ _ _ hf
theorem gX6_forward_28 {K : gK} {X : gX} {M : XS} (C : gC K X cX6_forward 4 yX6_forward (some Jvm.ClassFile.FieldType.int) rX6_forward)  {o : (Int32 × MS)} (E : gE K X (some (.int o.1)) M (some o.2) rX6_forward.cells rX6_forward.slots)   :
    ∀ (n : Nat) (S : MS) (a1 : Int32) (a2 : Int32) (a3 : Int32), fX6_forward_28  n S a1 a2 a3 = some o → GG K X 4 0 0 M (some S) 28 [(0, .ref (kh K)), (1, .int a1), (2, .int a2), (3, .int a3)] [] := by
  intro n
  induction n with
  | zero => intro S a1 a2 a3 hf; cases hf
  | succ n ih =>
    intro S a1 a2 a3 hf
    rw [fX6_forward_28] at hf
    refine GG.iload_n C dX6_forward_28 3 rfl ?_
    refine GG.aload_n C dX6_forward_29 0 rfl ?_
    refine GG.gm20 C rfl dX6_forward_30 ?_
    refine GG.bipush C dX6_forward_33 bp_118 ?_
    obtain ⟨v6, hv6, hf⟩ := obd_some hf
    refine GG.mi C rfl hv6 dX6_forward_35 ?_
    refine GG.icmp_ge C (tgt := 60) dX6_forward_36 (by decide) (fun c7 => ?_) (fun c7 => ?_)
    · have hf := if_t hf c7
      refine GG.iload_n C dX6_forward_60 2 rfl ?_
      refine GG.if_ge C (tgt := 71) dX6_forward_61 (by decide) (fun c8 => ?_) (fun c8 => ?_)
      · have hf := if_t hf c8
        refine GG.iconst C dX6_forward_71 ic_1 ?_
        refine GG.istore_n C (lv' := [(3, .int (nI 1)), (0, .ref (kh K)), (1, .int a1), (2, .int a2)]) dX6_forward_72 (by decide) rfl ?_
        refine GG.sub [1, 3, 0] rfl ?_
        exact gX6_forward_73 C E  FU _ _ _ hf
      · have hf := if_f hf c8
        refine GG.aload_n C dX6_forward_64 0 rfl ?_
        refine GG.bipush C dX6_forward_65 bp_8 ?_
        obtain ⟨p9, hp9, hf⟩ := obd_some hf
        refine GG.c_X6_299 C rfl (gX6_refuse hp9) ⟨Nat.le_of_ble_eq_true rfl, Nat.le_of_ble_eq_true rfl⟩ ⟨Nat.le_of_ble_eq_true rfl, Nat.le_of_ble_eq_true rfl⟩ (Nat.le_of_ble_eq_true rfl) dX6_forward_67 ?_
        have hf := Option.some.inj hf
        subst hf
        exact GG.iret C E dX6_forward_70
    · have hf := if_f hf c7
      refine GG.aload_n C dX6_forward_39 0 rfl ?_
      refine GG.gm20 C rfl dX6_forward_40 ?_
      refine GG.bipush C dX6_forward_43 bp_119 ?_
      refine GG.iload_n C dX6_forward_45 3 rfl ?_
      refine GG.iadd C dX6_forward_46 ?_
      obtain ⟨v10, hv10, hf⟩ := obd_some hf
      refine GG.mi C rfl hv10 dX6_forward_47 ?_
      refine GG.iload_n C dX6_forward_48 1 rfl ?_
      refine GG.icmp_ne C (tgt := 54) dX6_forward_49 (by decide) (fun c11 => ?_) (fun c11 => ?_)
      · have hf := if_f hf c11
        refine GG.iinc C (v := (a3 + (nI 1))) (lv' := [(3, .int (a3 + (nI 1))), (0, .ref (kh K)), (1, .int a1), (2, .int a2)]) dX6_forward_54 3 rfl (congrArg (a3 + ·) ic_1) (by decide) rfl ?_
        refine GG.goto C (tgt := 28) dX6_forward_57 (by decide) ?_
        refine GG.sub [1, 2, 3, 0] rfl ?_
        exact ih _ _ _ _ hf
      · have hf := if_t hf c11
        refine GG.iload_n C dX6_forward_52 3 rfl ?_
        refine GG.istore_n C (lv' := [(2, .int a3), (0, .ref (kh K)), (1, .int a1), (3, .int a3)]) dX6_forward_53 (by decide) rfl ?_
        refine GG.iinc C (v := (a3 + (nI 1))) (lv' := [(3, .int (a3 + (nI 1))), (2, .int a3), (0, .ref (kh K)), (1, .int a1)]) dX6_forward_54 3 rfl (congrArg (a3 + ·) ic_1) (by decide) rfl ?_
        refine GG.goto C (tgt := 28) dX6_forward_57 (by decide) ?_
        refine GG.sub [2, 3, 1, 0] rfl ?_
        exact ih _ _ _ _ hf
theorem gX6_forward {K : gK} {M : XS}  {S : MS} {a1 : Int32} {o : (Int32 × MS)} (hf : fX6_forward S a1 = some o) : gMet K yX6_forward cX6_forward 4 (some Jvm.ClassFile.FieldType.int) rX6_forward [(.ref (kh K)), (.int a1)] M (some S) (some (.int o.1)) M (some o.2) := by
  refine gMet.of pn_X6 (Nat.le_of_ble_eq_true rfl) fun X C E => ?_
  unfold fX6_forward at hf
  show GG K X 4 0 0 M (some S) 0 [(0, .ref (kh K)), (1, .int a1)] []
  refine GG.aload_n C dX6_forward_0 0 rfl ?_
  refine GG.iconst C dX6_forward_1 ic_0 ?_
  refine GG.pm1 C rfl dX6_forward_2 ?_
  refine GG.topS fun S1 hS1 => ?_
  have hf := ltb_s hS1 hf
  refine GG.aload_n C dX6_forward_5 0 rfl ?_
  refine GG.iconst C dX6_forward_6 ic_0 ?_
  refine GG.pm0 C rfl dX6_forward_7 ?_
  refine GG.topS fun S2 hS2 => ?_
  have hf := ltb_s hS2 hf
  refine GG.aload_n C dX6_forward_10 0 rfl ?_
  refine GG.iload_n C dX6_forward_11 1 rfl ?_
  obtain ⟨v3, hv3, hf⟩ := obd_some hf
  refine GG.c_X6_311 C rfl (gX6_isChange hv3) ⟨Nat.le_of_ble_eq_true rfl, Nat.le_of_ble_eq_true rfl⟩ ⟨Nat.le_of_ble_eq_true rfl, Nat.le_of_ble_eq_true rfl⟩ (Nat.le_of_ble_eq_true rfl) dX6_forward_12 ?_
  refine GG.if_ne C (tgt := 24) dX6_forward_15 (by decide) (fun c4 => ?_) (fun c4 => ?_)
  · have hf := if_f hf c4
    refine GG.iconst C dX6_forward_24 ic_m1 ?_
    refine GG.istore_n C (lv' := [(2, .int (-1 : Int32)), (0, .ref (kh K)), (1, .int a1)]) dX6_forward_25 (by decide) rfl ?_
    refine GG.iconst C dX6_forward_26 ic_0 ?_
    refine GG.istore_n C (lv' := [(3, .int (nI 0)), (2, .int (-1 : Int32)), (0, .ref (kh K)), (1, .int a1)]) dX6_forward_27 (by decide) rfl ?_
    refine GG.sub [2, 3, 1, 0] rfl ?_
    exact gX6_forward_28 C E  FU _ _ _ _ hf
  · have hf := if_t hf c4
    refine GG.aload_n C dX6_forward_18 0 rfl ?_
    refine GG.iconst C dX6_forward_19 ic_2 ?_
    obtain ⟨p5, hp5, hf⟩ := obd_some hf
    refine GG.c_X6_299 C rfl (gX6_refuse hp5) ⟨Nat.le_of_ble_eq_true rfl, Nat.le_of_ble_eq_true rfl⟩ ⟨Nat.le_of_ble_eq_true rfl, Nat.le_of_ble_eq_true rfl⟩ (Nat.le_of_ble_eq_true rfl) dX6_forward_20 ?_
    have hf := Option.some.inj hf
    subst hf
    exact GG.iret C E dX6_forward_23
theorem gX6_swaps_27 {K : gK} {X : gX} {M : XS} (C : gC K X cX6_swaps 7 yX6_swaps (some Jvm.ClassFile.FieldType.int) rX6_swaps)  {o : (Int32 × MS)} (E : gE K X (some (.int o.1)) M (some o.2) rX6_swaps.cells rX6_swaps.slots) {k19 : MS → Int32 → Int32 → Int32 → Option (Int32 × MS)} (hk19 : ∀ (S : MS) (a1 : Int32) (a2 : Int32) (a3 : Int32), k19 S a1 a2 a3 = some o → GG K X 7 0 0 M (some S) 19 [(0, .ref (kh K)), (1, .int a1), (2, .int a2), (3, .int a3)] []) :
    ∀ (n : Nat) (S : MS) (a1 : Int32) (a2 : Int32) (a3 : Int32) (a4 : Int32), fX6_swaps_27 k19 n S a1 a2 a3 a4 = some o → GG K X 7 0 0 M (some S) 27 [(0, .ref (kh K)), (1, .int a1), (2, .int a2), (3, .int a3), (4, .int a4)] [] := by
  intro n
  induction n with
  | zero => intro S a1 a2 a3 a4 hf; cases hf
  | succ n ih =>
    intro S a1 a2 a3 a4 hf
    rw [fX6_swaps_27] at hf
    refine GG.iload_n C dX6_swaps_27 1 rfl ?_
    refine GG.iload_n C dX6_swaps_28 2 rfl ?_
    refine GG.iconst C dX6_swaps_29 ic_m1 ?_
    refine GG.ixor C dX6_swaps_30 ?_
    refine GG.iand C dX6_swaps_31 ?_
    refine GG.iload C dX6_swaps_32 4 rfl ?_
    obtain ⟨v5, hv5, hf⟩ := obd_some hf
    refine GG.c_X6_302 C rfl (gX6_hasIn hv5) ⟨Nat.le_of_ble_eq_true rfl, Nat.le_of_ble_eq_true rfl⟩ ⟨Nat.le_of_ble_eq_true rfl, Nat.le_of_ble_eq_true rfl⟩ (Nat.le_of_ble_eq_true rfl) dX6_swaps_34 ?_
    refine GG.if_eq C (tgt := 54) dX6_swaps_37 (by decide) (fun c6 => ?_) (fun c6 => ?_)
    · have hf := if_t hf c6
      refine GG.iinc C (v := (a4 + (nI 1))) (lv' := [(4, .int (a4 + (nI 1))), (0, .ref (kh K)), (1, .int a1), (2, .int a2), (3, .int a3)]) dX6_swaps_54 4 rfl (congrArg (a4 + ·) ic_1) (by decide) rfl ?_
      refine GG.goto C (tgt := 27) dX6_swaps_57 (by decide) ?_
      refine GG.sub [1, 2, 3, 4, 0] rfl ?_
      exact ih _ _ _ _ _ hf
    · have hf := if_f hf c6
      refine GG.aload_n C dX6_swaps_40 0 rfl ?_
      refine GG.iconst C dX6_swaps_41 ic_0 ?_
      refine GG.iload C dX6_swaps_42 4 rfl ?_
      obtain ⟨v7, hv7, hf⟩ := obd_some hf
      refine GG.c_X6_249 C rfl (gX6_hangsOn hv7) ⟨Nat.le_of_ble_eq_true rfl, Nat.le_of_ble_eq_true rfl⟩ ⟨Nat.le_of_ble_eq_true rfl, Nat.le_of_ble_eq_true rfl⟩ (Nat.le_of_ble_eq_true rfl) dX6_swaps_44 ?_
      refine GG.iload_n C dX6_swaps_47 2 rfl ?_
      refine GG.iconst C dX6_swaps_48 ic_m1 ?_
      refine GG.ixor C dX6_swaps_49 ?_
      refine GG.iand C dX6_swaps_50 ?_
      refine GG.if_eq C (tgt := 60) dX6_swaps_51 (by decide) (fun c8 => ?_) (fun c8 => ?_)
      · have hf := if_t hf c8
        refine GG.aload_n C dX6_swaps_60 0 rfl ?_
        refine GG.gm45 C rfl dX6_swaps_61 ?_
        refine GG.iload C dX6_swaps_64 4 rfl ?_
        refine GG.iload_n C dX6_swaps_66 3 rfl ?_
        obtain ⟨S9, hS9, hf⟩ := obd_some hf
        refine GG.mis C rfl hS9 dX6_swaps_67 ?_
        refine GG.iinc C (v := (a3 + (nI 1))) (lv' := [(3, .int (a3 + (nI 1))), (0, .ref (kh K)), (1, .int a1), (2, .int a2), (4, .int a4)]) dX6_swaps_68 3 rfl (congrArg (a3 + ·) ic_1) (by decide) rfl ?_
        refine GG.iload_n C dX6_swaps_71 3 rfl ?_
        refine GG.iconst C dX6_swaps_72 ic_1 ?_
        refine GG.iload C dX6_swaps_73 4 rfl ?_
        refine GG.ishl C dX6_swaps_75 ?_
        refine GG.ior C dX6_swaps_76 ?_
        refine GG.topi fun x10 hx10 => ?_
        have hf := ltb_s hx10 hf
        refine GG.istore_n C (lv' := [(2, .int x10), (3, .int (a3 + (nI 1))), (0, .ref (kh K)), (1, .int a1), (4, .int a4)]) dX6_swaps_77 (by decide) rfl ?_
        refine GG.goto C (tgt := 19) dX6_swaps_78 (by decide) ?_
        refine GG.sub [2, 3, 0, 1] rfl ?_
        exact hk19 _ _ _ _ hf
      · have hf := if_f hf c8
        refine GG.iinc C (v := (a4 + (nI 1))) (lv' := [(4, .int (a4 + (nI 1))), (0, .ref (kh K)), (1, .int a1), (2, .int a2), (3, .int a3)]) dX6_swaps_54 4 rfl (congrArg (a4 + ·) ic_1) (by decide) rfl ?_
        refine GG.goto C (tgt := 27) dX6_swaps_57 (by decide) ?_
        refine GG.sub [1, 2, 3, 4, 0] rfl ?_
        exact ih _ _ _ _ _ hf
theorem gX6_swaps_105 {K : gK} {X : gX} {M : XS} (C : gC K X cX6_swaps 7 yX6_swaps (some Jvm.ClassFile.FieldType.int) rX6_swaps)  {o : (Int32 × MS)} (E : gE K X (some (.int o.1)) M (some o.2) rX6_swaps.cells rX6_swaps.slots) {k87 : MS → Int32 → Int32 → Option (Int32 × MS)} (hk87 : ∀ (S : MS) (a4 : Int32) (a5 : Int32), k87 S a4 a5 = some o → GG K X 7 0 0 M (some S) 87 [(0, .ref (kh K)), (4, .int a4), (5, .int a5)] []) :
    ∀ (n : Nat) (S : MS) (a4 : Int32) (a5 : Int32) (a6 : Int32), fX6_swaps_105 k87 n S a4 a5 a6 = some o → GG K X 7 0 0 M (some S) 105 [(0, .ref (kh K)), (4, .int a4), (5, .int a5), (6, .int a6)] [] := by
  intro n
  induction n with
  | zero => intro S a4 a5 a6 hf; cases hf
  | succ n ih =>
    intro S a4 a5 a6 hf
    rw [fX6_swaps_105] at hf
    refine GG.iload C dX6_swaps_105 3 rfl ?_
    refine GG.aload_n C dX6_swaps_107 0 rfl ?_
    refine GG.gm20 C rfl dX6_swaps_108 ?_
    refine GG.bipush C dX6_swaps_111 bp_118 ?_
    obtain ⟨v14, hv14, hf⟩ := obd_some hf
    refine GG.mi C rfl hv14 dX6_swaps_113 ?_
    refine GG.icmp_ge C (tgt := 166) dX6_swaps_114 (by decide) (fun c15 => ?_) (fun c15 => ?_)
    · have hf := if_t hf c15
      refine GG.iinc C (v := (a5 + (nI 1))) (lv' := [(5, .int (a5 + (nI 1))), (0, .ref (kh K)), (4, .int a4), (6, .int a6)]) dX6_swaps_166 2 rfl (congrArg (a5 + ·) ic_1) (by decide) rfl ?_
      refine GG.goto C (tgt := 87) dX6_swaps_169 (by decide) ?_
      refine GG.sub [1, 2, 0] rfl ?_
      exact hk87 _ _ _ hf
    · have hf := if_f hf c15
      refine GG.iload C dX6_swaps_117 1 rfl ?_
      refine GG.aload_n C dX6_swaps_119 0 rfl ?_
      refine GG.gm45 C rfl dX6_swaps_120 ?_
      refine GG.aload_n C dX6_swaps_123 0 rfl ?_
      refine GG.gm20 C rfl dX6_swaps_124 ?_
      refine GG.bipush C dX6_swaps_127 bp_119 ?_
      refine GG.iload C dX6_swaps_129 2 rfl ?_
      refine GG.iadd C dX6_swaps_131 ?_
      obtain ⟨v16, hv16, hf⟩ := obd_some hf
      refine GG.mi C rfl hv16 dX6_swaps_132 ?_
      obtain ⟨v17, hv17, hf⟩ := obd_some hf
      refine GG.mi C rfl hv17 dX6_swaps_133 ?_
      refine GG.aload_n C dX6_swaps_134 0 rfl ?_
      refine GG.gm45 C rfl dX6_swaps_135 ?_
      refine GG.aload_n C dX6_swaps_138 0 rfl ?_
      refine GG.gm20 C rfl dX6_swaps_139 ?_
      refine GG.bipush C dX6_swaps_142 bp_119 ?_
      refine GG.iload C dX6_swaps_144 3 rfl ?_
      refine GG.iadd C dX6_swaps_146 ?_
      obtain ⟨v18, hv18, hf⟩ := obd_some hf
      refine GG.mi C rfl hv18 dX6_swaps_147 ?_
      obtain ⟨v19, hv19, hf⟩ := obd_some hf
      refine GG.mi C rfl hv19 dX6_swaps_148 ?_
      refine GG.icmp_le C (tgt := 156) dX6_swaps_149 (by decide) (fun c20 => ?_) (fun c20 => ?_)
      · have hf := if_t hf c20
        refine GG.iconst C dX6_swaps_156 ic_0 ?_
        refine GG.iadd C dX6_swaps_157 ?_
        refine GG.topi fun x21 hx21 => ?_
        have hf := ltb_s hx21 hf
        refine GG.istore C (lv' := [(4, .int x21), (0, .ref (kh K)), (5, .int a5), (6, .int a6)]) dX6_swaps_158 (by decide) rfl ?_
        refine GG.iinc C (v := (a6 + (nI 1))) (lv' := [(6, .int (a6 + (nI 1))), (4, .int x21), (0, .ref (kh K)), (5, .int a5)]) dX6_swaps_160 3 rfl (congrArg (a6 + ·) ic_1) (by decide) rfl ?_
        refine GG.goto C (tgt := 105) dX6_swaps_163 (by decide) ?_
        refine GG.sub [2, 1, 3, 0] rfl ?_
        exact ih _ _ _ _ hf
      · have hf := if_f hf c20
        refine GG.iconst C dX6_swaps_152 ic_1 ?_
        refine GG.goto C (tgt := 157) dX6_swaps_153 (by decide) ?_
        refine GG.iadd C dX6_swaps_157 ?_
        refine GG.topi fun x22 hx22 => ?_
        have hf := ltb_s hx22 hf
        refine GG.istore C (lv' := [(4, .int x22), (0, .ref (kh K)), (5, .int a5), (6, .int a6)]) dX6_swaps_158 (by decide) rfl ?_
        refine GG.iinc C (v := (a6 + (nI 1))) (lv' := [(6, .int (a6 + (nI 1))), (4, .int x22), (0, .ref (kh K)), (5, .int a5)]) dX6_swaps_160 3 rfl (congrArg (a6 + ·) ic_1) (by decide) rfl ?_
        refine GG.goto C (tgt := 105) dX6_swaps_163 (by decide) ?_
        refine GG.sub [2, 1, 3, 0] rfl ?_
        exact ih _ _ _ _ hf
theorem gX6_swaps_87 {K : gK} {X : gX} {M : XS} (C : gC K X cX6_swaps 7 yX6_swaps (some Jvm.ClassFile.FieldType.int) rX6_swaps)  {o : (Int32 × MS)} (E : gE K X (some (.int o.1)) M (some o.2) rX6_swaps.cells rX6_swaps.slots)   :
    ∀ (n : Nat) (S : MS) (a4 : Int32) (a5 : Int32), fX6_swaps_87  n S a4 a5 = some o → GG K X 7 0 0 M (some S) 87 [(0, .ref (kh K)), (4, .int a4), (5, .int a5)] [] := by
  intro n
  induction n with
  | zero => intro S a4 a5 hf; cases hf
  | succ n ih =>
    intro S a4 a5 hf
    rw [fX6_swaps_87] at hf
    refine GG.iload C dX6_swaps_87 2 rfl ?_
    refine GG.aload_n C dX6_swaps_89 0 rfl ?_
    refine GG.gm20 C rfl dX6_swaps_90 ?_
    refine GG.bipush C dX6_swaps_93 bp_118 ?_
    obtain ⟨v11, hv11, hf⟩ := obd_some hf
    refine GG.mi C rfl hv11 dX6_swaps_95 ?_
    refine GG.icmp_ge C (tgt := 172) dX6_swaps_96 (by decide) (fun c12 => ?_) (fun c12 => ?_)
    · have hf := if_t hf c12
      refine GG.iload C dX6_swaps_172 1 rfl ?_
      have hf := Option.some.inj hf
      subst hf
      exact GG.iret C E dX6_swaps_174
    · have hf := if_f hf c12
      refine GG.iload C dX6_swaps_99 2 rfl ?_
      refine GG.iconst C dX6_swaps_101 ic_1 ?_
      refine GG.iadd C dX6_swaps_102 ?_
      refine GG.topi fun x13 hx13 => ?_
      have hf := ltb_s hx13 hf
      refine GG.istore C (lv' := [(6, .int x13), (0, .ref (kh K)), (4, .int a4), (5, .int a5)]) dX6_swaps_103 (by decide) rfl ?_
      refine GG.sub [1, 2, 3, 0] rfl ?_
      exact gX6_swaps_105 C E (hk87 := ih) FU _ _ _ _ hf
theorem gX6_swaps_19 {K : gK} {X : gX} {M : XS} (C : gC K X cX6_swaps 7 yX6_swaps (some Jvm.ClassFile.FieldType.int) rX6_swaps)  {o : (Int32 × MS)} (E : gE K X (some (.int o.1)) M (some o.2) rX6_swaps.cells rX6_swaps.slots)   :
    ∀ (n : Nat) (S : MS) (a1 : Int32) (a2 : Int32) (a3 : Int32), fX6_swaps_19  n S a1 a2 a3 = some o → GG K X 7 0 0 M (some S) 19 [(0, .ref (kh K)), (1, .int a1), (2, .int a2), (3, .int a3)] [] := by
  intro n
  induction n with
  | zero => intro S a1 a2 a3 hf; cases hf
  | succ n ih =>
    intro S a1 a2 a3 hf
    rw [fX6_swaps_19] at hf
    refine GG.iload_n C dX6_swaps_19 2 rfl ?_
    refine GG.iload_n C dX6_swaps_20 1 rfl ?_
    refine GG.icmp_eq C (tgt := 81) dX6_swaps_21 (by decide) (fun c4 => ?_) (fun c4 => ?_)
    · have hf := if_t hf c4
      refine GG.iconst C dX6_swaps_81 ic_0 ?_
      refine GG.istore C (lv' := [(4, .int (nI 0)), (0, .ref (kh K)), (1, .int a1), (2, .int a2), (3, .int a3)]) dX6_swaps_82 (by decide) rfl ?_
      refine GG.iconst C dX6_swaps_84 ic_0 ?_
      refine GG.istore C (lv' := [(5, .int (nI 0)), (4, .int (nI 0)), (0, .ref (kh K)), (1, .int a1), (2, .int a2), (3, .int a3)]) dX6_swaps_85 (by decide) rfl ?_
      refine GG.sub [2, 1, 0] rfl ?_
      exact gX6_swaps_87 C E  FU _ _ _ hf
    · have hf := if_f hf c4
      refine GG.iconst C dX6_swaps_24 ic_0 ?_
      refine GG.istore C (lv' := [(4, .int (nI 0)), (0, .ref (kh K)), (1, .int a1), (2, .int a2), (3, .int a3)]) dX6_swaps_25 (by decide) rfl ?_
      refine GG.sub [1, 2, 3, 4, 0] rfl ?_
      exact gX6_swaps_27 C E (hk19 := ih) FU _ _ _ _ _ hf
theorem gX6_swaps {K : gK} {M : XS}  {S : MS} {o : (Int32 × MS)} (hf : fX6_swaps S = some o) : gMet K yX6_swaps cX6_swaps 7 (some Jvm.ClassFile.FieldType.int) rX6_swaps [(.ref (kh K))] M (some S) (some (.int o.1)) M (some o.2) := by
  refine gMet.of pn_X6 (Nat.le_of_ble_eq_true rfl) fun X C E => ?_
  unfold fX6_swaps at hf
  show GG K X 7 0 0 M (some S) 0 [(0, .ref (kh K))] []
  refine GG.aload_n C dX6_swaps_0 0 rfl ?_
  refine GG.iconst C dX6_swaps_1 ic_0 ?_
  refine GG.pm1 C rfl dX6_swaps_2 ?_
  refine GG.topS fun S1 hS1 => ?_
  have hf := ltb_s hS1 hf
  refine GG.aload_n C dX6_swaps_5 0 rfl ?_
  refine GG.iconst C dX6_swaps_6 ic_0 ?_
  refine GG.pm0 C rfl dX6_swaps_7 ?_
  refine GG.topS fun S2 hS2 => ?_
  have hf := ltb_s hS2 hf
  refine GG.aload_n C dX6_swaps_10 0 rfl ?_
  obtain ⟨v3, hv3, hf⟩ := obd_some hf
  refine GG.c_X6_397 C rfl (gX6_orderSet hv3) ⟨Nat.le_of_ble_eq_true rfl, Nat.le_of_ble_eq_true rfl⟩ ⟨Nat.le_of_ble_eq_true rfl, Nat.le_of_ble_eq_true rfl⟩ (Nat.le_of_ble_eq_true rfl) dX6_swaps_11 ?_
  refine GG.istore_n C (lv' := [(1, .int v3), (0, .ref (kh K))]) dX6_swaps_14 (by decide) rfl ?_
  refine GG.iconst C dX6_swaps_15 ic_0 ?_
  refine GG.istore_n C (lv' := [(2, .int (nI 0)), (1, .int v3), (0, .ref (kh K))]) dX6_swaps_16 (by decide) rfl ?_
  refine GG.iconst C dX6_swaps_17 ic_0 ?_
  refine GG.istore_n C (lv' := [(3, .int (nI 0)), (2, .int (nI 0)), (1, .int v3), (0, .ref (kh K))]) dX6_swaps_18 (by decide) rfl ?_
  refine GG.sub [3, 2, 1, 0] rfl ?_
  exact gX6_swaps_19 C E  FU _ _ _ _ hf
theorem gX6_isIsland {K : gK} {M : XS}  {S : MS} {a1 : Int32} {o : Int32} (hf : fX6_isIsland S a1 = some o) : gMet K yX6_isIsland cX6_isIsland 2 (some Jvm.ClassFile.FieldType.boolean) rX6_isIsland [(.ref (kh K)), (.int a1)] M (some S) (some (.int o)) M (some S) := by
  refine gMet.of pn_X6 (Nat.le_of_ble_eq_true rfl) fun X C E => ?_
  unfold fX6_isIsland at hf
  show GG K X 2 0 0 M (some S) 0 [(0, .ref (kh K)), (1, .int a1)] []
  refine GG.iload_n C dX6_isIsland_0 1 rfl ?_
  refine GG.i2l C dX6_isIsland_1 ?_
  refine GG.lconst C dX6_isIsland_2 lc_0 ?_
  refine GG.aload_n C dX6_isIsland_3 0 rfl ?_
  refine GG.gm20 C rfl dX6_isIsland_4 ?_
  refine GG.iconst C dX6_isIsland_7 ic_1 ?_
  obtain ⟨v1, hv1, hf⟩ := obd_some hf
  refine GG.mi C rfl hv1 dX6_isIsland_8 ?_
  refine GG.iconst C dX6_isIsland_9 ic_1 ?_
  refine GG.isub C dX6_isIsland_10 ?_
  refine GG.i2l C dX6_isIsland_11 ?_
  obtain ⟨v2, hv2, hf⟩ := obd_some hf
  refine GG.c_X6_110 C rfl (gX6_isIn hv2) ⟨Nat.le_of_ble_eq_true rfl, Nat.le_of_ble_eq_true rfl⟩ ⟨Nat.le_of_ble_eq_true rfl, Nat.le_of_ble_eq_true rfl⟩ (Nat.le_of_ble_eq_true rfl) dX6_isIsland_12 ?_
  obtain ⟨c3, hf⟩ := gd_some hf
  have hf := Option.some.inj hf
  subst hf
  exact GG.zret C c3 E dX6_isIsland_15
theorem gX6_has {K : gK} {M : XS}  {S : MS} {a1 : Int32} {o : (Int32 × MS)} (hf : fX6_has S a1 = some o) : gMet K yX6_has cX6_has 2 (some Jvm.ClassFile.FieldType.int) rX6_has [(.ref (kh K)), (.int a1)] M (some S) (some (.int o.1)) M (some o.2) := by
  refine gMet.of pn_X6 (Nat.le_of_ble_eq_true rfl) fun X C E => ?_
  unfold fX6_has at hf
  show GG K X 2 0 0 M (some S) 0 [(0, .ref (kh K)), (1, .int a1)] []
  refine GG.aload_n C dX6_has_0 0 rfl ?_
  refine GG.iconst C dX6_has_1 ic_0 ?_
  refine GG.pm1 C rfl dX6_has_2 ?_
  refine GG.topS fun S1 hS1 => ?_
  have hf := ltb_s hS1 hf
  refine GG.aload_n C dX6_has_5 0 rfl ?_
  refine GG.iconst C dX6_has_6 ic_0 ?_
  refine GG.pm0 C rfl dX6_has_7 ?_
  refine GG.topS fun S2 hS2 => ?_
  have hf := ltb_s hS2 hf
  refine GG.aload_n C dX6_has_10 0 rfl ?_
  refine GG.iload_n C dX6_has_11 1 rfl ?_
  obtain ⟨v3, hv3, hf⟩ := obd_some hf
  refine GG.c_X6_403 C rfl (gX6_isIsland hv3) ⟨Nat.le_of_ble_eq_true rfl, Nat.le_of_ble_eq_true rfl⟩ ⟨Nat.le_of_ble_eq_true rfl, Nat.le_of_ble_eq_true rfl⟩ (Nat.le_of_ble_eq_true rfl) dX6_has_12 ?_
  refine GG.if_eq C (tgt := 30) dX6_has_15 (by decide) (fun c4 => ?_) (fun c4 => ?_)
  · have hf := if_t hf c4
    refine GG.aload_n C dX6_has_30 0 rfl ?_
    refine GG.iconst C dX6_has_31 ic_2 ?_
    obtain ⟨p5, hp5, hf⟩ := obd_some hf
    refine GG.c_X6_299 C rfl (gX6_refuse hp5) ⟨Nat.le_of_ble_eq_true rfl, Nat.le_of_ble_eq_true rfl⟩ ⟨Nat.le_of_ble_eq_true rfl, Nat.le_of_ble_eq_true rfl⟩ (Nat.le_of_ble_eq_true rfl) dX6_has_32 ?_
    have hf := Option.some.inj hf
    subst hf
    exact GG.iret C E dX6_has_35
  · have hf := if_f hf c4
    refine GG.aload_n C dX6_has_18 0 rfl ?_
    refine GG.gm20 C rfl dX6_has_19 ?_
    refine GG.bipush C dX6_has_22 bp_114 ?_
    refine GG.iload_n C dX6_has_24 1 rfl ?_
    refine GG.iadd C dX6_has_25 ?_
    obtain ⟨v6, hv6, hf⟩ := obd_some hf
    refine GG.mi C rfl hv6 dX6_has_26 ?_
    refine GG.goto C (tgt := 35) dX6_has_27 (by decide) ?_
    have hf := Option.some.inj hf
    subst hf
    exact GG.iret C E dX6_has_35
theorem gX6_give {K : gK} {M : XS}  {S : MS} {a1 : Int32} {a2 : Int32} {o : (Int32 × MS)} (hf : fX6_give S a1 a2 = some o) : gMet K yX6_give cX6_give 3 (some Jvm.ClassFile.FieldType.boolean) rX6_give [(.ref (kh K)), (.int a1), (.int a2)] M (some S) (some (.int o.1)) M (some o.2) := by
  refine gMet.of pn_X6 (Nat.le_of_ble_eq_true rfl) fun X C E => ?_
  unfold fX6_give at hf
  show GG K X 3 0 0 M (some S) 0 [(0, .ref (kh K)), (1, .int a1), (2, .int a2)] []
  refine GG.aload_n C dX6_give_0 0 rfl ?_
  refine GG.iconst C dX6_give_1 ic_0 ?_
  refine GG.pm1 C rfl dX6_give_2 ?_
  refine GG.topS fun S1 hS1 => ?_
  have hf := ltb_s hS1 hf
  refine GG.aload_n C dX6_give_5 0 rfl ?_
  refine GG.iconst C dX6_give_6 ic_0 ?_
  refine GG.pm0 C rfl dX6_give_7 ?_
  refine GG.topS fun S2 hS2 => ?_
  have hf := ltb_s hS2 hf
  refine GG.aload_n C dX6_give_10 0 rfl ?_
  refine GG.iload_n C dX6_give_11 1 rfl ?_
  obtain ⟨v3, hv3, hf⟩ := obd_some hf
  refine GG.c_X6_403 C rfl (gX6_isIsland hv3) ⟨Nat.le_of_ble_eq_true rfl, Nat.le_of_ble_eq_true rfl⟩ ⟨Nat.le_of_ble_eq_true rfl, Nat.le_of_ble_eq_true rfl⟩ (Nat.le_of_ble_eq_true rfl) dX6_give_12 ?_
  refine GG.if_eq C (tgt := 26) dX6_give_15 (by decide) (fun c4 => ?_) (fun c4 => ?_)
  · have hf := if_t hf c4
    refine GG.aload_n C dX6_give_26 0 rfl ?_
    refine GG.iconst C dX6_give_27 ic_2 ?_
    obtain ⟨p5, hp5, hf⟩ := obd_some hf
    refine GG.c_X6_90 C rfl (gX6_no hp5) ⟨Nat.le_of_ble_eq_true rfl, Nat.le_of_ble_eq_true rfl⟩ ⟨Nat.le_of_ble_eq_true rfl, Nat.le_of_ble_eq_true rfl⟩ (Nat.le_of_ble_eq_true rfl) dX6_give_28 ?_
    obtain ⟨c6, hf⟩ := gd_some hf
    have hf := Option.some.inj hf
    subst hf
    exact GG.zret C c6 E dX6_give_31
  · have hf := if_f hf c4
    refine GG.aload_n C dX6_give_18 0 rfl ?_
    refine GG.iload_n C dX6_give_19 2 rfl ?_
    obtain ⟨v7, hv7, hf⟩ := obd_some hf
    refine GG.c_X6_319 C rfl (gX6_isSet hv7) ⟨Nat.le_of_ble_eq_true rfl, Nat.le_of_ble_eq_true rfl⟩ ⟨Nat.le_of_ble_eq_true rfl, Nat.le_of_ble_eq_true rfl⟩ (Nat.le_of_ble_eq_true rfl) dX6_give_20 ?_
    refine GG.if_ne C (tgt := 32) dX6_give_23 (by decide) (fun c8 => ?_) (fun c8 => ?_)
    · have hf := if_f hf c8
      refine GG.aload_n C dX6_give_32 0 rfl ?_
      refine GG.iload_n C dX6_give_33 2 rfl ?_
      obtain ⟨v9, hv9, hf⟩ := obd_some hf
      refine GG.c_X6_322 C rfl (gX6_lackOf hv9) ⟨Nat.le_of_ble_eq_true rfl, Nat.le_of_ble_eq_true rfl⟩ ⟨Nat.le_of_ble_eq_true rfl, Nat.le_of_ble_eq_true rfl⟩ (Nat.le_of_ble_eq_true rfl) dX6_give_34 ?_
      refine GG.if_eq C (tgt := 47) dX6_give_37 (by decide) (fun c10 => ?_) (fun c10 => ?_)
      · have hf := if_t hf c10
        refine GG.aload_n C dX6_give_47 0 rfl ?_
        refine GG.gm20 C rfl dX6_give_48 ?_
        refine GG.bipush C dX6_give_51 bp_114 ?_
        refine GG.iload_n C dX6_give_53 1 rfl ?_
        refine GG.iadd C dX6_give_54 ?_
        refine GG.iload_n C dX6_give_55 2 rfl ?_
        obtain ⟨S11, hS11, hf⟩ := obd_some hf
        refine GG.mis C rfl hS11 dX6_give_56 ?_
        refine GG.iconst C dX6_give_57 ic_1 ?_
        have hf := Option.some.inj hf
        subst hf
        exact GG.zret C zb_1 E dX6_give_58
      · have hf := if_f hf c10
        refine GG.aload_n C dX6_give_40 0 rfl ?_
        refine GG.bipush C dX6_give_41 bp_9 ?_
        obtain ⟨p12, hp12, hf⟩ := obd_some hf
        refine GG.c_X6_90 C rfl (gX6_no hp12) ⟨Nat.le_of_ble_eq_true rfl, Nat.le_of_ble_eq_true rfl⟩ ⟨Nat.le_of_ble_eq_true rfl, Nat.le_of_ble_eq_true rfl⟩ (Nat.le_of_ble_eq_true rfl) dX6_give_43 ?_
        obtain ⟨c13, hf⟩ := gd_some hf
        have hf := Option.some.inj hf
        subst hf
        exact GG.zret C c13 E dX6_give_46
    · have hf := if_t hf c8
      refine GG.aload_n C dX6_give_26 0 rfl ?_
      refine GG.iconst C dX6_give_27 ic_2 ?_
      obtain ⟨p14, hp14, hf⟩ := obd_some hf
      refine GG.c_X6_90 C rfl (gX6_no hp14) ⟨Nat.le_of_ble_eq_true rfl, Nat.le_of_ble_eq_true rfl⟩ ⟨Nat.le_of_ble_eq_true rfl, Nat.le_of_ble_eq_true rfl⟩ (Nat.le_of_ble_eq_true rfl) dX6_give_28 ?_
      obtain ⟨c15, hf⟩ := gd_some hf
      have hf := Option.some.inj hf
      subst hf
      exact GG.zret C c15 E dX6_give_31
theorem gX6_readLogName_61 {K : gK} {X : gX} {M : XS} (C : gC K X cX6_readLogName 3 yX6_readLogName (some Jvm.ClassFile.FieldType.int) rX6_readLogName)  {o : (Int32 × MS)} (E : gE K X (some (.int o.1)) M (some o.2) rX6_readLogName.cells rX6_readLogName.slots)   :
    ∀ (S : MS) (s0 : Int32), fX6_readLogName_61  S s0 = some o → GG K X 3 0 0 M (some S) 61 [(0, .ref (kh K))] [.int s0] := by
  intro S s0 hf
  unfold fX6_readLogName_61 at hf
  refine GG.istore_n C (lv' := [(2, .int s0), (0, .ref (kh K))]) dX6_readLogName_61 (by decide) rfl ?_
  refine GG.aload_n C dX6_readLogName_62 1 rfl ?_
  refine GG.gm12 C rfl dX6_readLogName_63 ?_
  refine GG.if_ne C (tgt := 82) dX6_readLogName_66 (by decide) (fun c11 => ?_) (fun c11 => ?_)
  · have hf := if_f hf c11
    refine GG.aload_n C dX6_readLogName_82 1 rfl ?_
    refine GG.iconst C dX6_readLogName_83 ic_1 ?_
    obtain ⟨p12, hp12, hf⟩ := obd_some hf
    refine GG.c_X6_252 C rfl (gX6_must hp12) ⟨Nat.le_of_ble_eq_true rfl, Nat.le_of_ble_eq_true rfl⟩ ⟨Nat.le_of_ble_eq_true rfl, Nat.le_of_ble_eq_true rfl⟩ (Nat.le_of_ble_eq_true rfl) dX6_readLogName_84 ?_
    refine GG.iload_n C dX6_readLogName_87 0 rfl ?_
    have hf := Option.some.inj hf
    subst hf
    exact GG.iret C E dX6_readLogName_88
  · have hf := if_t hf c11
    refine GG.iload_n C dX6_readLogName_69 0 rfl ?_
    refine GG.if_ge C (tgt := 82) dX6_readLogName_70 (by decide) (fun c13 => ?_) (fun c13 => ?_)
    · have hf := if_t hf c13
      refine GG.aload_n C dX6_readLogName_82 1 rfl ?_
      refine GG.iconst C dX6_readLogName_83 ic_1 ?_
      obtain ⟨p14, hp14, hf⟩ := obd_some hf
      refine GG.c_X6_252 C rfl (gX6_must hp14) ⟨Nat.le_of_ble_eq_true rfl, Nat.le_of_ble_eq_true rfl⟩ ⟨Nat.le_of_ble_eq_true rfl, Nat.le_of_ble_eq_true rfl⟩ (Nat.le_of_ble_eq_true rfl) dX6_readLogName_84 ?_
      refine GG.iload_n C dX6_readLogName_87 0 rfl ?_
      have hf := Option.some.inj hf
      subst hf
      exact GG.iret C E dX6_readLogName_88
    · have hf := if_f hf c13
      refine GG.aload_n C dX6_readLogName_73 1 rfl ?_
      refine GG.iconst C dX6_readLogName_74 ic_3 ?_
      refine GG.aload_n C dX6_readLogName_75 1 rfl ?_
      refine GG.gm15 C rfl dX6_readLogName_76 ?_
      obtain ⟨p15, hp15, hf⟩ := obd_some hf
      refine GG.c_X6_215 C rfl (gX6_fail hp15) ⟨Nat.le_of_ble_eq_true rfl, Nat.le_of_ble_eq_true rfl⟩ ⟨Nat.le_of_ble_eq_true rfl, Nat.le_of_ble_eq_true rfl⟩ (Nat.le_of_ble_eq_true rfl) dX6_readLogName_79 ?_
      refine GG.aload_n C dX6_readLogName_82 1 rfl ?_
      refine GG.iconst C dX6_readLogName_83 ic_1 ?_
      obtain ⟨p16, hp16, hf⟩ := obd_some hf
      refine GG.c_X6_252 C rfl (gX6_must hp16) ⟨Nat.le_of_ble_eq_true rfl, Nat.le_of_ble_eq_true rfl⟩ ⟨Nat.le_of_ble_eq_true rfl, Nat.le_of_ble_eq_true rfl⟩ (Nat.le_of_ble_eq_true rfl) dX6_readLogName_84 ?_
      refine GG.iload_n C dX6_readLogName_87 0 rfl ?_
      have hf := Option.some.inj hf
      subst hf
      exact GG.iret C E dX6_readLogName_88
theorem gX6_readLogName_18 {K : gK} {X : gX} {M : XS} (C : gC K X cX6_readLogName 3 yX6_readLogName (some Jvm.ClassFile.FieldType.int) rX6_readLogName)  {o : (Int32 × MS)} (E : gE K X (some (.int o.1)) M (some o.2) rX6_readLogName.cells rX6_readLogName.slots)   :
    ∀ (S : MS) (a1 : Int32), fX6_readLogName_18  S a1 = some o → GG K X 3 0 0 M (some S) 18 [(0, .ref (kh K)), (1, .int a1)] [] := by
  intro S a1 hf
  unfold fX6_readLogName_18 at hf
  refine GG.aload_n C dX6_readLogName_18 0 rfl ?_
  refine GG.gm12 C rfl dX6_readLogName_19 ?_
  refine GG.if_le C (tgt := 29) dX6_readLogName_22 (by decide) (fun c5 => ?_) (fun c5 => ?_)
  · have hf := if_t hf c5
    refine GG.iload_n C dX6_readLogName_29 1 rfl ?_
    refine GG.if_eq C (tgt := 49) dX6_readLogName_30 (by decide) (fun c6 => ?_) (fun c6 => ?_)
    · have hf := if_t hf c6
      refine GG.aload_n C dX6_readLogName_49 0 rfl ?_
      refine GG.iconst C dX6_readLogName_50 ic_0 ?_
      refine GG.iconst C dX6_readLogName_51 ic_0 ?_
      refine GG.aload_n C dX6_readLogName_52 0 rfl ?_
      refine GG.gm20 C rfl dX6_readLogName_53 ?_
      refine GG.iconst C dX6_readLogName_56 ic_0 ?_
      obtain ⟨v7, hv7, hf⟩ := obd_some hf
      refine GG.mi C rfl hv7 dX6_readLogName_57 ?_
      obtain ⟨v8, hv8, hf⟩ := obd_some hf
      refine GG.c_X6_235 C rfl (gX6_named hv8) ⟨Nat.le_of_ble_eq_true rfl, Nat.le_of_ble_eq_true rfl⟩ ⟨Nat.le_of_ble_eq_true rfl, Nat.le_of_ble_eq_true rfl⟩ (Nat.le_of_ble_eq_true rfl) dX6_readLogName_58 ?_
      refine GG.sub [0] rfl ?_
      exact gX6_readLogName_61 C E  _ _ hf
    · have hf := if_f hf c6
      refine GG.aload_n C dX6_readLogName_33 0 rfl ?_
      refine GG.iconst C dX6_readLogName_34 ic_0 ?_
      refine GG.bipush C dX6_readLogName_35 bp_16 ?_
      refine GG.aload_n C dX6_readLogName_37 0 rfl ?_
      refine GG.gm20 C rfl dX6_readLogName_38 ?_
      refine GG.iconst C dX6_readLogName_41 ic_1 ?_
      obtain ⟨v9, hv9, hf⟩ := obd_some hf
      refine GG.mi C rfl hv9 dX6_readLogName_42 ?_
      obtain ⟨v10, hv10, hf⟩ := obd_some hf
      refine GG.c_X6_235 C rfl (gX6_named hv10) ⟨Nat.le_of_ble_eq_true rfl, Nat.le_of_ble_eq_true rfl⟩ ⟨Nat.le_of_ble_eq_true rfl, Nat.le_of_ble_eq_true rfl⟩ (Nat.le_of_ble_eq_true rfl) dX6_readLogName_43 ?_
      refine GG.goto C (tgt := 61) dX6_readLogName_46 (by decide) ?_
      refine GG.sub [0] rfl ?_
      exact gX6_readLogName_61 C E  _ _ hf
  · have hf := if_f hf c5
    refine GG.iconst C dX6_readLogName_25 ic_0 ?_
    refine GG.goto C (tgt := 61) dX6_readLogName_26 (by decide) ?_
    refine GG.sub [0] rfl ?_
    exact gX6_readLogName_61 C E  _ _ hf
theorem gX6_readLogName {K : gK} {M : XS}  {S : MS} {a1 : Int32} {o : (Int32 × MS)} (hf : fX6_readLogName S a1 = some o) : gMet K yX6_readLogName cX6_readLogName 3 (some Jvm.ClassFile.FieldType.int) rX6_readLogName [(.ref (kh K)), (.int a1)] M (some S) (some (.int o.1)) M (some o.2) := by
  refine gMet.of pn_X6 (Nat.le_of_ble_eq_true rfl) fun X C E => ?_
  unfold fX6_readLogName at hf
  show GG K X 3 0 0 M (some S) 0 [(0, .ref (kh K)), (1, .int a1)] []
  refine GG.aload_n C dX6_readLogName_0 0 rfl ?_
  refine GG.gm12 C rfl dX6_readLogName_1 ?_
  refine GG.if_ne C (tgt := 18) dX6_readLogName_4 (by decide) (fun c1 => ?_) (fun c1 => ?_)
  · have hf := if_f hf c1
    refine GG.sub [0, 1] rfl ?_
    exact gX6_readLogName_18 C E  _ _ hf
  · have hf := if_t hf c1
    refine GG.aload_n C dX6_readLogName_7 0 rfl ?_
    obtain ⟨v2, hv2, hf⟩ := obd_some hf
    refine GG.c_X6_232 C rfl (gX6_isName hv2) ⟨Nat.le_of_ble_eq_true rfl, Nat.le_of_ble_eq_true rfl⟩ ⟨Nat.le_of_ble_eq_true rfl, Nat.le_of_ble_eq_true rfl⟩ (Nat.le_of_ble_eq_true rfl) dX6_readLogName_8 ?_
    refine GG.if_ne C (tgt := 18) dX6_readLogName_11 (by decide) (fun c3 => ?_) (fun c3 => ?_)
    · have hf := if_f hf c3
      refine GG.sub [0, 1] rfl ?_
      exact gX6_readLogName_18 C E  _ _ hf
    · have hf := if_t hf c3
      refine GG.aload_n C dX6_readLogName_14 0 rfl ?_
      obtain ⟨p4, hp4, hf⟩ := obd_some hf
      refine GG.c_X6_222 C rfl (gX6_wrong hp4) ⟨Nat.le_of_ble_eq_true rfl, Nat.le_of_ble_eq_true rfl⟩ ⟨Nat.le_of_ble_eq_true rfl, Nat.le_of_ble_eq_true rfl⟩ (Nat.le_of_ble_eq_true rfl) dX6_readLogName_15 ?_
      refine GG.sub [0, 1] rfl ?_
      exact gX6_readLogName_18 C E  _ _ hf
theorem gX6_readShip_85 {K : gK} {X : gX} {M : XS} (C : gC K X cX6_readShip 2 yX6_readShip none rX6_readShip)  {o : MS} (E : gE K X none M (some o) rX6_readShip.cells rX6_readShip.slots)   :
    ∀ (S : MS) (a1 : Int32), fX6_readShip_85  S a1 = some o → GG K X 2 0 0 M (some S) 85 [(0, .ref (kh K)), (1, .int a1)] [] := by
  intro S a1 hf
  unfold fX6_readShip_85 at hf
  refine GG.aload_n C dX6_readShip_85 0 rfl ?_
  refine GG.gm12 C rfl dX6_readShip_86 ?_
  refine GG.if_ne C (tgt := 112) dX6_readShip_89 (by decide) (fun c15 => ?_) (fun c15 => ?_)
  · have hf := if_f hf c15
    have hf := Option.some.inj hf
    subst hf
    exact GG.vret C E dX6_readShip_112
  · have hf := if_t hf c15
    refine GG.aload_n C dX6_readShip_92 0 rfl ?_
    obtain ⟨v16, hv16, hf⟩ := obd_some hf
    refine GG.c_X6_191 C rfl (gX6_isTwice hv16) ⟨Nat.le_of_ble_eq_true rfl, Nat.le_of_ble_eq_true rfl⟩ ⟨Nat.le_of_ble_eq_true rfl, Nat.le_of_ble_eq_true rfl⟩ (Nat.le_of_ble_eq_true rfl) dX6_readShip_93 ?_
    refine GG.if_eq C (tgt := 112) dX6_readShip_96 (by decide) (fun c17 => ?_) (fun c17 => ?_)
    · have hf := if_t hf c17
      have hf := Option.some.inj hf
      subst hf
      exact GG.vret C E dX6_readShip_112
    · have hf := if_f hf c17
      refine GG.aload_n C dX6_readShip_99 0 rfl ?_
      obtain ⟨p18, hp18, hf⟩ := obd_some hf
      refine GG.c_X6_219 C rfl (gX6_next hp18) ⟨Nat.le_of_ble_eq_true rfl, Nat.le_of_ble_eq_true rfl⟩ ⟨Nat.le_of_ble_eq_true rfl, Nat.le_of_ble_eq_true rfl⟩ (Nat.le_of_ble_eq_true rfl) dX6_readShip_100 ?_
      refine GG.aload_n C dX6_readShip_103 0 rfl ?_
      refine GG.gm20 C rfl dX6_readShip_104 ?_
      refine GG.iload_n C dX6_readShip_107 1 rfl ?_
      refine GG.iconst C dX6_readShip_108 ic_4 ?_
      refine GG.iadd C dX6_readShip_109 ?_
      refine GG.iconst C dX6_readShip_110 ic_1 ?_
      obtain ⟨S19, hS19, hf⟩ := obd_some hf
      refine GG.mis C rfl hS19 dX6_readShip_111 ?_
      have hf := Option.some.inj hf
      subst hf
      exact GG.vret C E dX6_readShip_112
theorem gX6_readShip {K : gK} {M : XS}  {S : MS} {a1 : Int32} {o : MS} (hf : fX6_readShip S a1 = some o) : gMet K yX6_readShip cX6_readShip 2 none rX6_readShip [(.ref (kh K)), (.int a1)] M (some S) none M (some o) := by
  refine gMet.of pn_X6 (Nat.le_of_ble_eq_true rfl) fun X C E => ?_
  unfold fX6_readShip at hf
  show GG K X 2 0 0 M (some S) 0 [(0, .ref (kh K)), (1, .int a1)] []
  refine GG.aload_n C dX6_readShip_0 0 rfl ?_
  refine GG.gm20 C rfl dX6_readShip_1 ?_
  refine GG.iload_n C dX6_readShip_4 1 rfl ?_
  refine GG.iconst C dX6_readShip_5 ic_1 ?_
  refine GG.iadd C dX6_readShip_6 ?_
  refine GG.aload_n C dX6_readShip_7 0 rfl ?_
  refine GG.iconst C dX6_readShip_8 ic_1 ?_
  obtain ⟨p1, hp1, hf⟩ := obd_some hf
  refine GG.c_X6_406 C rfl (gX6_readLogName hp1) ⟨Nat.le_of_ble_eq_true rfl, Nat.le_of_ble_eq_true rfl⟩ ⟨Nat.le_of_ble_eq_true rfl, Nat.le_of_ble_eq_true rfl⟩ (Nat.le_of_ble_eq_true rfl) dX6_readShip_9 ?_
  obtain ⟨S2, hS2, hf⟩ := obd_some hf
  refine GG.mis C rfl hS2 dX6_readShip_12 ?_
  refine GG.aload_n C dX6_readShip_13 0 rfl ?_
  refine GG.aload_n C dX6_readShip_14 0 rfl ?_
  obtain ⟨v3, hv3, hf⟩ := obd_some hf
  refine GG.c_X6_185 C rfl (gX6_isTo hv3) ⟨Nat.le_of_ble_eq_true rfl, Nat.le_of_ble_eq_true rfl⟩ ⟨Nat.le_of_ble_eq_true rfl, Nat.le_of_ble_eq_true rfl⟩ (Nat.le_of_ble_eq_true rfl) dX6_readShip_15 ?_
  obtain ⟨p4, hp4, hf⟩ := obd_some hf
  refine GG.c_X6_252 C rfl (gX6_must hp4) ⟨Nat.le_of_ble_eq_true rfl, Nat.le_of_ble_eq_true rfl⟩ ⟨Nat.le_of_ble_eq_true rfl, Nat.le_of_ble_eq_true rfl⟩ (Nat.le_of_ble_eq_true rfl) dX6_readShip_18 ?_
  refine GG.aload_n C dX6_readShip_21 0 rfl ?_
  refine GG.gm20 C rfl dX6_readShip_22 ?_
  refine GG.iload_n C dX6_readShip_25 1 rfl ?_
  refine GG.iconst C dX6_readShip_26 ic_2 ?_
  refine GG.iadd C dX6_readShip_27 ?_
  refine GG.aload_n C dX6_readShip_28 0 rfl ?_
  refine GG.iconst C dX6_readShip_29 ic_1 ?_
  obtain ⟨p5, hp5, hf⟩ := obd_some hf
  refine GG.c_X6_406 C rfl (gX6_readLogName hp5) ⟨Nat.le_of_ble_eq_true rfl, Nat.le_of_ble_eq_true rfl⟩ ⟨Nat.le_of_ble_eq_true rfl, Nat.le_of_ble_eq_true rfl⟩ (Nat.le_of_ble_eq_true rfl) dX6_readShip_30 ?_
  obtain ⟨S6, hS6, hf⟩ := obd_some hf
  refine GG.mis C rfl hS6 dX6_readShip_33 ?_
  refine GG.aload_n C dX6_readShip_34 0 rfl ?_
  refine GG.gm20 C rfl dX6_readShip_35 ?_
  refine GG.iload_n C dX6_readShip_38 1 rfl ?_
  refine GG.iconst C dX6_readShip_39 ic_3 ?_
  refine GG.iadd C dX6_readShip_40 ?_
  refine GG.iconst C dX6_readShip_41 ic_0 ?_
  obtain ⟨S7, hS7, hf⟩ := obd_some hf
  refine GG.mis C rfl hS7 dX6_readShip_42 ?_
  refine GG.aload_n C dX6_readShip_43 0 rfl ?_
  refine GG.gm20 C rfl dX6_readShip_44 ?_
  refine GG.iload_n C dX6_readShip_47 1 rfl ?_
  refine GG.iconst C dX6_readShip_48 ic_4 ?_
  refine GG.iadd C dX6_readShip_49 ?_
  refine GG.iconst C dX6_readShip_50 ic_0 ?_
  obtain ⟨S8, hS8, hf⟩ := obd_some hf
  refine GG.mis C rfl hS8 dX6_readShip_51 ?_
  refine GG.aload_n C dX6_readShip_52 0 rfl ?_
  refine GG.gm12 C rfl dX6_readShip_53 ?_
  refine GG.if_ne C (tgt := 85) dX6_readShip_56 (by decide) (fun c9 => ?_) (fun c9 => ?_)
  · have hf := if_f hf c9
    refine GG.sub [0, 1] rfl ?_
    exact gX6_readShip_85 C E  _ _ hf
  · have hf := if_t hf c9
    refine GG.aload_n C dX6_readShip_59 0 rfl ?_
    obtain ⟨v10, hv10, hf⟩ := obd_some hf
    refine GG.c_X6_188 C rfl (gX6_isLate hv10) ⟨Nat.le_of_ble_eq_true rfl, Nat.le_of_ble_eq_true rfl⟩ ⟨Nat.le_of_ble_eq_true rfl, Nat.le_of_ble_eq_true rfl⟩ (Nat.le_of_ble_eq_true rfl) dX6_readShip_60 ?_
    refine GG.if_eq C (tgt := 85) dX6_readShip_63 (by decide) (fun c11 => ?_) (fun c11 => ?_)
    · have hf := if_t hf c11
      refine GG.sub [0, 1] rfl ?_
      exact gX6_readShip_85 C E  _ _ hf
    · have hf := if_f hf c11
      refine GG.aload_n C dX6_readShip_66 0 rfl ?_
      obtain ⟨p12, hp12, hf⟩ := obd_some hf
      refine GG.c_X6_219 C rfl (gX6_next hp12) ⟨Nat.le_of_ble_eq_true rfl, Nat.le_of_ble_eq_true rfl⟩ ⟨Nat.le_of_ble_eq_true rfl, Nat.le_of_ble_eq_true rfl⟩ (Nat.le_of_ble_eq_true rfl) dX6_readShip_67 ?_
      refine GG.aload_n C dX6_readShip_70 0 rfl ?_
      refine GG.gm20 C rfl dX6_readShip_71 ?_
      refine GG.iload_n C dX6_readShip_74 1 rfl ?_
      refine GG.iconst C dX6_readShip_75 ic_3 ?_
      refine GG.iadd C dX6_readShip_76 ?_
      refine GG.aload_n C dX6_readShip_77 0 rfl ?_
      refine GG.iconst C dX6_readShip_78 ic_0 ?_
      refine GG.bipush C dX6_readShip_79 bp_9 ?_
      obtain ⟨p13, hp13, hf⟩ := obd_some hf
      refine GG.c_X6_272 C rfl (gX6_count hp13) ⟨Nat.le_of_ble_eq_true rfl, Nat.le_of_ble_eq_true rfl⟩ ⟨Nat.le_of_ble_eq_true rfl, Nat.le_of_ble_eq_true rfl⟩ (Nat.le_of_ble_eq_true rfl) dX6_readShip_81 ?_
      obtain ⟨S14, hS14, hf⟩ := obd_some hf
      refine GG.mis C rfl hS14 dX6_readShip_84 ?_
      refine GG.sub [0, 1] rfl ?_
      exact gX6_readShip_85 C E  _ _ hf
theorem gX6_readTest_45 {K : gK} {X : gX} {M : XS} (C : gC K X cX6_readTest 3 yX6_readTest none rX6_readTest)  {o : MS} (E : gE K X none M (some o) rX6_readTest.cells rX6_readTest.slots)   :
    ∀ (S : MS) (a1 : Int32) (a2 : Int32) (s0 : Int32), fX6_readTest_45  S a1 a2 s0 = some o → GG K X 3 0 0 M (some S) 45 [(0, .ref (kh K)), (1, .int a1), (2, .int a2)] [.int s0, .ref (kh K)] := by
  intro S a1 a2 s0 hf
  unfold fX6_readTest_45 at hf
  obtain ⟨p11, hp11, hf⟩ := obd_some hf
  refine GG.c_X6_252 C rfl (gX6_must hp11) ⟨Nat.le_of_ble_eq_true rfl, Nat.le_of_ble_eq_true rfl⟩ ⟨Nat.le_of_ble_eq_true rfl, Nat.le_of_ble_eq_true rfl⟩ (Nat.le_of_ble_eq_true rfl) dX6_readTest_45 ?_
  refine GG.aload_n C dX6_readTest_48 0 rfl ?_
  refine GG.gm20 C rfl dX6_readTest_49 ?_
  refine GG.iload_n C dX6_readTest_52 1 rfl ?_
  refine GG.iconst C dX6_readTest_53 ic_5 ?_
  refine GG.iadd C dX6_readTest_54 ?_
  refine GG.iload_n C dX6_readTest_55 2 rfl ?_
  obtain ⟨S12, hS12, hf⟩ := obd_some hf
  refine GG.mis C rfl hS12 dX6_readTest_56 ?_
  refine GG.iload_n C dX6_readTest_57 2 rfl ?_
  refine GG.iconst C dX6_readTest_58 ic_2 ?_
  refine GG.icmp_ne C (tgt := 81) dX6_readTest_59 (by decide) (fun c13 => ?_) (fun c13 => ?_)
  · have hf := if_f hf c13
    refine GG.iload_n C dX6_readTest_81 2 rfl ?_
    refine GG.if_lt C (tgt := 115) dX6_readTest_82 (by decide) (fun c14 => ?_) (fun c14 => ?_)
    · have hf := if_t hf c14
      have hf := Option.some.inj hf
      subst hf
      exact GG.vret C E dX6_readTest_115
    · have hf := if_f hf c14
      refine GG.aload_n C dX6_readTest_85 0 rfl ?_
      refine GG.gm20 C rfl dX6_readTest_86 ?_
      refine GG.iload_n C dX6_readTest_89 1 rfl ?_
      refine GG.iconst C dX6_readTest_90 ic_1 ?_
      refine GG.iadd C dX6_readTest_91 ?_
      refine GG.aload_n C dX6_readTest_92 0 rfl ?_
      refine GG.iconst C dX6_readTest_93 ic_1 ?_
      obtain ⟨p15, hp15, hf⟩ := obd_some hf
      refine GG.c_X6_406 C rfl (gX6_readLogName hp15) ⟨Nat.le_of_ble_eq_true rfl, Nat.le_of_ble_eq_true rfl⟩ ⟨Nat.le_of_ble_eq_true rfl, Nat.le_of_ble_eq_true rfl⟩ (Nat.le_of_ble_eq_true rfl) dX6_readTest_94 ?_
      obtain ⟨S16, hS16, hf⟩ := obd_some hf
      refine GG.mis C rfl hS16 dX6_readTest_97 ?_
      refine GG.iload_n C dX6_readTest_98 2 rfl ?_
      refine GG.if_ne C (tgt := 115) dX6_readTest_99 (by decide) (fun c17 => ?_) (fun c17 => ?_)
      · have hf := if_f hf c17
        have hf := Option.some.inj hf
        subst hf
        exact GG.vret C E dX6_readTest_115
      · have hf := if_t hf c17
        refine GG.aload_n C dX6_readTest_102 0 rfl ?_
        refine GG.gm20 C rfl dX6_readTest_103 ?_
        refine GG.iload_n C dX6_readTest_106 1 rfl ?_
        refine GG.iconst C dX6_readTest_107 ic_2 ?_
        refine GG.iadd C dX6_readTest_108 ?_
        refine GG.aload_n C dX6_readTest_109 0 rfl ?_
        refine GG.iconst C dX6_readTest_110 ic_0 ?_
        obtain ⟨p18, hp18, hf⟩ := obd_some hf
        refine GG.c_X6_406 C rfl (gX6_readLogName hp18) ⟨Nat.le_of_ble_eq_true rfl, Nat.le_of_ble_eq_true rfl⟩ ⟨Nat.le_of_ble_eq_true rfl, Nat.le_of_ble_eq_true rfl⟩ (Nat.le_of_ble_eq_true rfl) dX6_readTest_111 ?_
        obtain ⟨S19, hS19, hf⟩ := obd_some hf
        refine GG.mis C rfl hS19 dX6_readTest_114 ?_
        have hf := Option.some.inj hf
        subst hf
        exact GG.vret C E dX6_readTest_115
  · have hf := if_t hf c13
    refine GG.aload_n C dX6_readTest_62 0 rfl ?_
    refine GG.gm20 C rfl dX6_readTest_63 ?_
    refine GG.iload_n C dX6_readTest_66 1 rfl ?_
    refine GG.iconst C dX6_readTest_67 ic_1 ?_
    refine GG.iadd C dX6_readTest_68 ?_
    refine GG.aload_n C dX6_readTest_69 0 rfl ?_
    refine GG.iconst C dX6_readTest_70 ic_0 ?_
    refine GG.sipush C dX6_readTest_71 sp_999 ?_
    obtain ⟨p20, hp20, hf⟩ := obd_some hf
    refine GG.c_X6_272 C rfl (gX6_count hp20) ⟨Nat.le_of_ble_eq_true rfl, Nat.le_of_ble_eq_true rfl⟩ ⟨Nat.le_of_ble_eq_true rfl, Nat.le_of_ble_eq_true rfl⟩ (Nat.le_of_ble_eq_true rfl) dX6_readTest_74 ?_
    obtain ⟨S21, hS21, hf⟩ := obd_some hf
    refine GG.mis C rfl hS21 dX6_readTest_77 ?_
    refine GG.goto C (tgt := 115) dX6_readTest_78 (by decide) ?_
    have hf := Option.some.inj hf
    subst hf
    exact GG.vret C E dX6_readTest_115
theorem gX6_readTest {K : gK} {M : XS}  {S : MS} {a1 : Int32} {o : MS} (hf : fX6_readTest S a1 = some o) : gMet K yX6_readTest cX6_readTest 3 none rX6_readTest [(.ref (kh K)), (.int a1)] M (some S) none M (some o) := by
  refine gMet.of pn_X6 (Nat.le_of_ble_eq_true rfl) fun X C E => ?_
  unfold fX6_readTest at hf
  show GG K X 3 0 0 M (some S) 0 [(0, .ref (kh K)), (1, .int a1)] []
  refine GG.aload_n C dX6_readTest_0 0 rfl ?_
  obtain ⟨v1, hv1, hf⟩ := obd_some hf
  refine GG.c_X6_194 C rfl (gX6_isHas hv1) ⟨Nat.le_of_ble_eq_true rfl, Nat.le_of_ble_eq_true rfl⟩ ⟨Nat.le_of_ble_eq_true rfl, Nat.le_of_ble_eq_true rfl⟩ (Nat.le_of_ble_eq_true rfl) dX6_readTest_1 ?_
  refine GG.if_eq C (tgt := 11) dX6_readTest_4 (by decide) (fun c2 => ?_) (fun c2 => ?_)
  · have hf := if_t hf c2
    refine GG.aload_n C dX6_readTest_11 0 rfl ?_
    obtain ⟨v3, hv3, hf⟩ := obd_some hf
    refine GG.c_X6_197 C rfl (gX6_isQuietWord hv3) ⟨Nat.le_of_ble_eq_true rfl, Nat.le_of_ble_eq_true rfl⟩ ⟨Nat.le_of_ble_eq_true rfl, Nat.le_of_ble_eq_true rfl⟩ (Nat.le_of_ble_eq_true rfl) dX6_readTest_12 ?_
    refine GG.if_eq C (tgt := 22) dX6_readTest_15 (by decide) (fun c4 => ?_) (fun c4 => ?_)
    · have hf := if_t hf c4
      refine GG.aload_n C dX6_readTest_22 0 rfl ?_
      obtain ⟨v5, hv5, hf⟩ := obd_some hf
      refine GG.c_X6_200 C rfl (gX6_isDayWord hv5) ⟨Nat.le_of_ble_eq_true rfl, Nat.le_of_ble_eq_true rfl⟩ ⟨Nat.le_of_ble_eq_true rfl, Nat.le_of_ble_eq_true rfl⟩ (Nat.le_of_ble_eq_true rfl) dX6_readTest_23 ?_
      refine GG.if_eq C (tgt := 33) dX6_readTest_26 (by decide) (fun c6 => ?_) (fun c6 => ?_)
      · have hf := if_t hf c6
        refine GG.iconst C dX6_readTest_33 ic_m1 ?_
        refine GG.istore_n C (lv' := [(2, .int (-1 : Int32)), (0, .ref (kh K)), (1, .int a1)]) dX6_readTest_34 (by decide) rfl ?_
        refine GG.aload_n C dX6_readTest_35 1 rfl ?_
        refine GG.iload_n C dX6_readTest_36 0 rfl ?_
        refine GG.if_lt C (tgt := 44) dX6_readTest_37 (by decide) (fun c7 => ?_) (fun c7 => ?_)
        · have hf := if_t hf c7
          refine GG.iconst C dX6_readTest_44 ic_0 ?_
          refine GG.sub [1, 2, 0] rfl ?_
          exact gX6_readTest_45 C E  _ _ _ _ hf
        · have hf := if_f hf c7
          refine GG.iconst C dX6_readTest_40 ic_1 ?_
          refine GG.goto C (tgt := 45) dX6_readTest_41 (by decide) ?_
          refine GG.sub [1, 2, 0] rfl ?_
          exact gX6_readTest_45 C E  _ _ _ _ hf
      · have hf := if_f hf c6
        refine GG.iconst C dX6_readTest_29 ic_2 ?_
        refine GG.goto C (tgt := 34) dX6_readTest_30 (by decide) ?_
        refine GG.istore_n C (lv' := [(2, .int (nI 2)), (0, .ref (kh K)), (1, .int a1)]) dX6_readTest_34 (by decide) rfl ?_
        refine GG.aload_n C dX6_readTest_35 1 rfl ?_
        refine GG.iload_n C dX6_readTest_36 0 rfl ?_
        refine GG.if_lt C (tgt := 44) dX6_readTest_37 (by decide) (fun c8 => ?_) (fun c8 => ?_)
        · have hf := if_t hf c8
          refine GG.iconst C dX6_readTest_44 ic_0 ?_
          refine GG.sub [1, 2, 0] rfl ?_
          exact gX6_readTest_45 C E  _ _ _ _ hf
        · have hf := if_f hf c8
          refine GG.iconst C dX6_readTest_40 ic_1 ?_
          refine GG.goto C (tgt := 45) dX6_readTest_41 (by decide) ?_
          refine GG.sub [1, 2, 0] rfl ?_
          exact gX6_readTest_45 C E  _ _ _ _ hf
    · have hf := if_f hf c4
      refine GG.iconst C dX6_readTest_18 ic_1 ?_
      refine GG.goto C (tgt := 34) dX6_readTest_19 (by decide) ?_
      refine GG.istore_n C (lv' := [(2, .int (nI 1)), (0, .ref (kh K)), (1, .int a1)]) dX6_readTest_34 (by decide) rfl ?_
      refine GG.aload_n C dX6_readTest_35 1 rfl ?_
      refine GG.iload_n C dX6_readTest_36 0 rfl ?_
      refine GG.if_lt C (tgt := 44) dX6_readTest_37 (by decide) (fun c9 => ?_) (fun c9 => ?_)
      · have hf := if_t hf c9
        refine GG.iconst C dX6_readTest_44 ic_0 ?_
        refine GG.sub [1, 2, 0] rfl ?_
        exact gX6_readTest_45 C E  _ _ _ _ hf
      · have hf := if_f hf c9
        refine GG.iconst C dX6_readTest_40 ic_1 ?_
        refine GG.goto C (tgt := 45) dX6_readTest_41 (by decide) ?_
        refine GG.sub [1, 2, 0] rfl ?_
        exact gX6_readTest_45 C E  _ _ _ _ hf
  · have hf := if_f hf c2
    refine GG.iconst C dX6_readTest_7 ic_0 ?_
    refine GG.goto C (tgt := 34) dX6_readTest_8 (by decide) ?_
    refine GG.istore_n C (lv' := [(2, .int (nI 0)), (0, .ref (kh K)), (1, .int a1)]) dX6_readTest_34 (by decide) rfl ?_
    refine GG.aload_n C dX6_readTest_35 1 rfl ?_
    refine GG.iload_n C dX6_readTest_36 0 rfl ?_
    refine GG.if_lt C (tgt := 44) dX6_readTest_37 (by decide) (fun c10 => ?_) (fun c10 => ?_)
    · have hf := if_t hf c10
      refine GG.iconst C dX6_readTest_44 ic_0 ?_
      refine GG.sub [1, 2, 0] rfl ?_
      exact gX6_readTest_45 C E  _ _ _ _ hf
    · have hf := if_f hf c10
      refine GG.iconst C dX6_readTest_40 ic_1 ?_
      refine GG.goto C (tgt := 45) dX6_readTest_41 (by decide) ?_
      refine GG.sub [1, 2, 0] rfl ?_
      exact gX6_readTest_45 C E  _ _ _ _ hf
theorem gX6_readRest_21 {K : gK} {X : gX} {M : XS} (C : gC K X cX6_readRest 3 yX6_readRest none rX6_readRest)  {o : MS} (E : gE K X none M (some o) rX6_readRest.cells rX6_readRest.slots)   :
    ∀ (S : MS) (a1 : Int32), fX6_readRest_21  S a1 = some o → GG K X 3 0 0 M (some S) 21 [(0, .ref (kh K)), (1, .int a1)] [] := by
  intro S a1 hf
  unfold fX6_readRest_21 at hf
  refine GG.aload_n C dX6_readRest_21 0 rfl ?_
  refine GG.gm20 C rfl dX6_readRest_22 ?_
  refine GG.iload_n C dX6_readRest_25 1 rfl ?_
  refine GG.iconst C dX6_readRest_26 ic_1 ?_
  refine GG.iadd C dX6_readRest_27 ?_
  refine GG.aload_n C dX6_readRest_28 0 rfl ?_
  refine GG.iconst C dX6_readRest_29 ic_0 ?_
  obtain ⟨p18, hp18, hf⟩ := obd_some hf
  refine GG.c_X6_406 C rfl (gX6_readLogName hp18) ⟨Nat.le_of_ble_eq_true rfl, Nat.le_of_ble_eq_true rfl⟩ ⟨Nat.le_of_ble_eq_true rfl, Nat.le_of_ble_eq_true rfl⟩ (Nat.le_of_ble_eq_true rfl) dX6_readRest_30 ?_
  obtain ⟨S19, hS19, hf⟩ := obd_some hf
  refine GG.mis C rfl hS19 dX6_readRest_33 ?_
  refine GG.aload_n C dX6_readRest_34 0 rfl ?_
  refine GG.aload_n C dX6_readRest_35 0 rfl ?_
  obtain ⟨v20, hv20, hf⟩ := obd_some hf
  refine GG.c_X6_182 C rfl (gX6_isAt hv20) ⟨Nat.le_of_ble_eq_true rfl, Nat.le_of_ble_eq_true rfl⟩ ⟨Nat.le_of_ble_eq_true rfl, Nat.le_of_ble_eq_true rfl⟩ (Nat.le_of_ble_eq_true rfl) dX6_readRest_36 ?_
  obtain ⟨p21, hp21, hf⟩ := obd_some hf
  refine GG.c_X6_252 C rfl (gX6_must hp21) ⟨Nat.le_of_ble_eq_true rfl, Nat.le_of_ble_eq_true rfl⟩ ⟨Nat.le_of_ble_eq_true rfl, Nat.le_of_ble_eq_true rfl⟩ (Nat.le_of_ble_eq_true rfl) dX6_readRest_39 ?_
  refine GG.aload_n C dX6_readRest_42 0 rfl ?_
  refine GG.gm20 C rfl dX6_readRest_43 ?_
  refine GG.iload_n C dX6_readRest_46 1 rfl ?_
  refine GG.iconst C dX6_readRest_47 ic_2 ?_
  refine GG.iadd C dX6_readRest_48 ?_
  refine GG.aload_n C dX6_readRest_49 0 rfl ?_
  refine GG.iconst C dX6_readRest_50 ic_1 ?_
  obtain ⟨p22, hp22, hf⟩ := obd_some hf
  refine GG.c_X6_406 C rfl (gX6_readLogName hp22) ⟨Nat.le_of_ble_eq_true rfl, Nat.le_of_ble_eq_true rfl⟩ ⟨Nat.le_of_ble_eq_true rfl, Nat.le_of_ble_eq_true rfl⟩ (Nat.le_of_ble_eq_true rfl) dX6_readRest_51 ?_
  obtain ⟨S23, hS23, hf⟩ := obd_some hf
  refine GG.mis C rfl hS23 dX6_readRest_54 ?_
  refine GG.goto C (tgt := 134) dX6_readRest_55 (by decide) ?_
  have hf := Option.some.inj hf
  subst hf
  exact GG.vret C E dX6_readRest_134
theorem gX6_readRest {K : gK} {M : XS}  {S : MS} {a1 : Int32} {o : MS} (hf : fX6_readRest S a1 = some o) : gMet K yX6_readRest cX6_readRest 3 none rX6_readRest [(.ref (kh K)), (.int a1)] M (some S) none M (some o) := by
  refine gMet.of pn_X6 (Nat.le_of_ble_eq_true rfl) fun X C E => ?_
  unfold fX6_readRest at hf
  show GG K X 3 0 0 M (some S) 0 [(0, .ref (kh K)), (1, .int a1)] []
  refine GG.aload_n C dX6_readRest_0 0 rfl ?_
  refine GG.gm20 C rfl dX6_readRest_1 ?_
  refine GG.iload_n C dX6_readRest_4 1 rfl ?_
  obtain ⟨v1, hv1, hf⟩ := obd_some hf
  refine GG.mi C rfl hv1 dX6_readRest_5 ?_
  refine GG.istore_n C (lv' := [(2, .int v1), (0, .ref (kh K)), (1, .int a1)]) dX6_readRest_6 (by decide) rfl ?_
  refine GG.iload_n C dX6_readRest_7 0 rfl ?_
  refine GG.if_eq C (tgt := 21) dX6_readRest_8 (by decide) (fun c2 => ?_) (fun c2 => ?_)
  · have hf := if_t hf c2
    refine GG.sub [1, 2] rfl ?_
    exact gX6_readRest_21 C E  _ _ hf
  · have hf := if_f hf c2
    refine GG.iload_n C dX6_readRest_11 0 rfl ?_
    refine GG.iconst C dX6_readRest_12 ic_2 ?_
    refine GG.icmp_eq C (tgt := 21) dX6_readRest_13 (by decide) (fun c3 => ?_) (fun c3 => ?_)
    · have hf := if_t hf c3
      refine GG.sub [1, 2] rfl ?_
      exact gX6_readRest_21 C E  _ _ hf
    · have hf := if_f hf c3
      refine GG.iload_n C dX6_readRest_16 0 rfl ?_
      refine GG.iconst C dX6_readRest_17 ic_3 ?_
      refine GG.icmp_ne C (tgt := 58) dX6_readRest_18 (by decide) (fun c4 => ?_) (fun c4 => ?_)
      · have hf := if_f hf c4
        refine GG.iload_n C dX6_readRest_58 0 rfl ?_
        refine GG.iconst C dX6_readRest_59 ic_1 ?_
        refine GG.icmp_ne C (tgt := 71) dX6_readRest_60 (by decide) (fun c5 => ?_) (fun c5 => ?_)
        · have hf := if_f hf c5
          refine GG.iload_n C dX6_readRest_71 0 rfl ?_
          refine GG.iconst C dX6_readRest_72 ic_4 ?_
          refine GG.icmp_eq C (tgt := 82) dX6_readRest_73 (by decide) (fun c6 => ?_) (fun c6 => ?_)
          · have hf := if_t hf c6
            refine GG.aload_n C dX6_readRest_82 1 rfl ?_
            refine GG.gm20 C rfl dX6_readRest_83 ?_
            refine GG.iload_n C dX6_readRest_86 2 rfl ?_
            refine GG.iconst C dX6_readRest_87 ic_1 ?_
            refine GG.iadd C dX6_readRest_88 ?_
            refine GG.aload_n C dX6_readRest_89 1 rfl ?_
            refine GG.iconst C dX6_readRest_90 ic_1 ?_
            refine GG.bipush C dX6_readRest_91 bp_99 ?_
            obtain ⟨p7, hp7, hf⟩ := obd_some hf
            refine GG.c_X6_272 C rfl (gX6_count hp7) ⟨Nat.le_of_ble_eq_true rfl, Nat.le_of_ble_eq_true rfl⟩ ⟨Nat.le_of_ble_eq_true rfl, Nat.le_of_ble_eq_true rfl⟩ (Nat.le_of_ble_eq_true rfl) dX6_readRest_93 ?_
            obtain ⟨S8, hS8, hf⟩ := obd_some hf
            refine GG.mis C rfl hS8 dX6_readRest_96 ?_
            refine GG.goto C (tgt := 134) dX6_readRest_97 (by decide) ?_
            have hf := Option.some.inj hf
            subst hf
            exact GG.vret C E dX6_readRest_134
          · have hf := if_f hf c6
            refine GG.iload_n C dX6_readRest_76 0 rfl ?_
            refine GG.bipush C dX6_readRest_77 bp_7 ?_
            refine GG.icmp_ne C (tgt := 100) dX6_readRest_79 (by decide) (fun c9 => ?_) (fun c9 => ?_)
            · have hf := if_f hf c9
              refine GG.iload_n C dX6_readRest_100 0 rfl ?_
              refine GG.iconst C dX6_readRest_101 ic_5 ?_
              refine GG.icmp_ne C (tgt := 123) dX6_readRest_102 (by decide) (fun c10 => ?_) (fun c10 => ?_)
              · have hf := if_f hf c10
                refine GG.iload_n C dX6_readRest_123 0 rfl ?_
                refine GG.bipush C dX6_readRest_124 bp_6 ?_
                refine GG.icmp_ne C (tgt := 134) dX6_readRest_126 (by decide) (fun c11 => ?_) (fun c11 => ?_)
                · have hf := if_f hf c11
                  have hf := Option.some.inj hf
                  subst hf
                  exact GG.vret C E dX6_readRest_134
                · have hf := if_t hf c11
                  refine GG.aload_n C dX6_readRest_129 1 rfl ?_
                  refine GG.iload_n C dX6_readRest_130 2 rfl ?_
                  obtain ⟨p12, hp12, hf⟩ := obd_some hf
                  refine GG.c_X6_413 C rfl (gX6_readTest hp12) ⟨Nat.le_of_ble_eq_true rfl, Nat.le_of_ble_eq_true rfl⟩ ⟨Nat.le_of_ble_eq_true rfl, Nat.le_of_ble_eq_true rfl⟩ (Nat.le_of_ble_eq_true rfl) dX6_readRest_131 ?_
                  have hf := Option.some.inj hf
                  subst hf
                  exact GG.vret C E dX6_readRest_134
              · have hf := if_t hf c10
                refine GG.aload_n C dX6_readRest_105 1 rfl ?_
                refine GG.gm20 C rfl dX6_readRest_106 ?_
                refine GG.iload_n C dX6_readRest_109 2 rfl ?_
                refine GG.iconst C dX6_readRest_110 ic_1 ?_
                refine GG.iadd C dX6_readRest_111 ?_
                refine GG.aload_n C dX6_readRest_112 1 rfl ?_
                refine GG.iconst C dX6_readRest_113 ic_0 ?_
                refine GG.bipush C dX6_readRest_114 bp_16 ?_
                obtain ⟨p13, hp13, hf⟩ := obd_some hf
                refine GG.c_X6_272 C rfl (gX6_count hp13) ⟨Nat.le_of_ble_eq_true rfl, Nat.le_of_ble_eq_true rfl⟩ ⟨Nat.le_of_ble_eq_true rfl, Nat.le_of_ble_eq_true rfl⟩ (Nat.le_of_ble_eq_true rfl) dX6_readRest_116 ?_
                obtain ⟨S14, hS14, hf⟩ := obd_some hf
                refine GG.mis C rfl hS14 dX6_readRest_119 ?_
                refine GG.goto C (tgt := 134) dX6_readRest_120 (by decide) ?_
                have hf := Option.some.inj hf
                subst hf
                exact GG.vret C E dX6_readRest_134
            · have hf := if_t hf c9
              refine GG.aload_n C dX6_readRest_82 1 rfl ?_
              refine GG.gm20 C rfl dX6_readRest_83 ?_
              refine GG.iload_n C dX6_readRest_86 2 rfl ?_
              refine GG.iconst C dX6_readRest_87 ic_1 ?_
              refine GG.iadd C dX6_readRest_88 ?_
              refine GG.aload_n C dX6_readRest_89 1 rfl ?_
              refine GG.iconst C dX6_readRest_90 ic_1 ?_
              refine GG.bipush C dX6_readRest_91 bp_99 ?_
              obtain ⟨p15, hp15, hf⟩ := obd_some hf
              refine GG.c_X6_272 C rfl (gX6_count hp15) ⟨Nat.le_of_ble_eq_true rfl, Nat.le_of_ble_eq_true rfl⟩ ⟨Nat.le_of_ble_eq_true rfl, Nat.le_of_ble_eq_true rfl⟩ (Nat.le_of_ble_eq_true rfl) dX6_readRest_93 ?_
              obtain ⟨S16, hS16, hf⟩ := obd_some hf
              refine GG.mis C rfl hS16 dX6_readRest_96 ?_
              refine GG.goto C (tgt := 134) dX6_readRest_97 (by decide) ?_
              have hf := Option.some.inj hf
              subst hf
              exact GG.vret C E dX6_readRest_134
        · have hf := if_t hf c5
          refine GG.aload_n C dX6_readRest_63 1 rfl ?_
          refine GG.iload_n C dX6_readRest_64 2 rfl ?_
          obtain ⟨p17, hp17, hf⟩ := obd_some hf
          refine GG.c_X6_410 C rfl (gX6_readShip hp17) ⟨Nat.le_of_ble_eq_true rfl, Nat.le_of_ble_eq_true rfl⟩ ⟨Nat.le_of_ble_eq_true rfl, Nat.le_of_ble_eq_true rfl⟩ (Nat.le_of_ble_eq_true rfl) dX6_readRest_65 ?_
          refine GG.goto C (tgt := 134) dX6_readRest_68 (by decide) ?_
          have hf := Option.some.inj hf
          subst hf
          exact GG.vret C E dX6_readRest_134
      · have hf := if_t hf c4
        refine GG.sub [1, 2] rfl ?_
        exact gX6_readRest_21 C E  _ _ hf
theorem gX6_readStep_168 {K : gK} {X : gX} {rec : MS → Int32 → Option MS} {d : Nat} {M : XS} (C : gC K X cX6_readStep 5 yX6_readStep none (rX6_readStep (d + 1))) (hrec : ∀ {S : MS} {a1 : Int32} {o : MS}, rec S a1 = some o → gMet K yX6_readStep cX6_readStep 5 none (rX6_readStep d) [.ref (kh K), .int a1] M (some S) none M (some o))  {o : MS} (E : gE K X none M (some o) (rX6_readStep (d + 1)).cells (rX6_readStep (d + 1)).slots)   :
    ∀ (S : MS) (a3 : Int32) (a4 : Int32), fX6_readStep_168 rec S a3 a4 = some o → GG K X 5 0 0 M (some S) 168 [(0, .ref (kh K)), (3, .int a3), (4, .int a4)] [] := by
  intro S a3 a4 hf
  unfold fX6_readStep_168 at hf
  refine GG.iload_n C dX6_readStep_168 1 rfl ?_
  refine GG.if_eq C (tgt := 188) dX6_readStep_169 (by decide) (fun c30 => ?_) (fun c30 => ?_)
  · have hf := if_t hf c30
    refine GG.aload_n C dX6_readStep_188 0 rfl ?_
    refine GG.gm20 C rfl dX6_readStep_189 ?_
    refine GG.iload C dX6_readStep_192 2 rfl ?_
    refine GG.bipush C dX6_readStep_194 bp_6 ?_
    refine GG.iadd C dX6_readStep_196 ?_
    refine GG.aload_n C dX6_readStep_197 0 rfl ?_
    refine GG.gm46 C rfl dX6_readStep_198 ?_
    obtain ⟨S31, hS31, hf⟩ := obd_some hf
    refine GG.mis C rfl hS31 dX6_readStep_201 ?_
    have hf := Option.some.inj hf
    subst hf
    exact GG.vret C E dX6_readStep_202
  · have hf := if_f hf c30
    refine GG.aload_n C dX6_readStep_172 0 rfl ?_
    refine GG.aload_n C dX6_readStep_173 0 rfl ?_
    obtain ⟨v32, hv32, hf⟩ := obd_some hf
    refine GG.c_X6_203 C rfl (gX6_isEnd hv32) ⟨by first | exact Nat.le_of_ble_eq_true rfl | (dsimp only [rX6_readStep, rX6_isEnd]; omega), by first | exact Nat.le_of_ble_eq_true rfl | (dsimp only [rX6_readStep, rX6_isEnd]; omega)⟩ ⟨by first | exact Nat.le_of_ble_eq_true rfl | (dsimp only [rX6_readStep, rX6_isEnd]; omega), by first | exact Nat.le_of_ble_eq_true rfl | (dsimp only [rX6_readStep, rX6_isEnd]; omega)⟩ (Nat.le_of_ble_eq_true rfl) dX6_readStep_174 ?_
    obtain ⟨p33, hp33, hf⟩ := obd_some hf
    refine GG.c_X6_252 C rfl (gX6_must hp33) ⟨by first | exact Nat.le_of_ble_eq_true rfl | (dsimp only [rX6_readStep, rX6_must]; omega), by first | exact Nat.le_of_ble_eq_true rfl | (dsimp only [rX6_readStep, rX6_must]; omega)⟩ ⟨by first | exact Nat.le_of_ble_eq_true rfl | (dsimp only [rX6_readStep, rX6_must]; omega), by first | exact Nat.le_of_ble_eq_true rfl | (dsimp only [rX6_readStep, rX6_must]; omega)⟩ (Nat.le_of_ble_eq_true rfl) dX6_readStep_177 ?_
    refine GG.aload_n C dX6_readStep_180 0 rfl ?_
    refine GG.aload_n C dX6_readStep_181 0 rfl ?_
    obtain ⟨v34, hv34, hf⟩ := obd_some hf
    refine GG.c_X6_293 C rfl (gX6_isClose hv34) ⟨by first | exact Nat.le_of_ble_eq_true rfl | (dsimp only [rX6_readStep, rX6_isClose]; omega), by first | exact Nat.le_of_ble_eq_true rfl | (dsimp only [rX6_readStep, rX6_isClose]; omega)⟩ ⟨by first | exact Nat.le_of_ble_eq_true rfl | (dsimp only [rX6_readStep, rX6_isClose]; omega), by first | exact Nat.le_of_ble_eq_true rfl | (dsimp only [rX6_readStep, rX6_isClose]; omega)⟩ (Nat.le_of_ble_eq_true rfl) dX6_readStep_182 ?_
    obtain ⟨p35, hp35, hf⟩ := obd_some hf
    refine GG.c_X6_252 C rfl (gX6_must hp35) ⟨by first | exact Nat.le_of_ble_eq_true rfl | (dsimp only [rX6_readStep, rX6_must]; omega), by first | exact Nat.le_of_ble_eq_true rfl | (dsimp only [rX6_readStep, rX6_must]; omega)⟩ ⟨by first | exact Nat.le_of_ble_eq_true rfl | (dsimp only [rX6_readStep, rX6_must]; omega), by first | exact Nat.le_of_ble_eq_true rfl | (dsimp only [rX6_readStep, rX6_must]; omega)⟩ (Nat.le_of_ble_eq_true rfl) dX6_readStep_185 ?_
    refine GG.aload_n C dX6_readStep_188 0 rfl ?_
    refine GG.gm20 C rfl dX6_readStep_189 ?_
    refine GG.iload C dX6_readStep_192 2 rfl ?_
    refine GG.bipush C dX6_readStep_194 bp_6 ?_
    refine GG.iadd C dX6_readStep_196 ?_
    refine GG.aload_n C dX6_readStep_197 0 rfl ?_
    refine GG.gm46 C rfl dX6_readStep_198 ?_
    obtain ⟨S36, hS36, hf⟩ := obd_some hf
    refine GG.mis C rfl hS36 dX6_readStep_201 ?_
    have hf := Option.some.inj hf
    subst hf
    exact GG.vret C E dX6_readStep_202
theorem gX6_readStep_140 {K : gK} {X : gX} {rec : MS → Int32 → Option MS} {d : Nat} {M : XS} (C : gC K X cX6_readStep 5 yX6_readStep none (rX6_readStep (d + 1))) (hrec : ∀ {S : MS} {a1 : Int32} {o : MS}, rec S a1 = some o → gMet K yX6_readStep cX6_readStep 5 none (rX6_readStep d) [.ref (kh K), .int a1] M (some S) none M (some o))  {o : MS} (E : gE K X none M (some o) (rX6_readStep (d + 1)).cells (rX6_readStep (d + 1)).slots)   :
    ∀ (n : Nat) (S : MS) (a1 : Int32) (a3 : Int32) (a4 : Int32), fX6_readStep_140 rec n S a1 a3 a4 = some o → GG K X 5 0 0 M (some S) 140 [(0, .ref (kh K)), (1, .int a1), (3, .int a3), (4, .int a4)] [] := by
  intro n
  induction n with
  | zero => intro S a1 a3 a4 hf; cases hf
  | succ n ih =>
    intro S a1 a3 a4 hf
    rw [fX6_readStep_140] at hf
    refine GG.iload_n C dX6_readStep_140 2 rfl ?_
    refine GG.if_eq C (tgt := 168) dX6_readStep_141 (by decide) (fun c25 => ?_) (fun c25 => ?_)
    · have hf := if_t hf c25
      refine GG.sub [0, 2, 3] rfl ?_
      exact gX6_readStep_168 C hrec E  _ _ _ hf
    · have hf := if_f hf c25
      refine GG.aload_n C dX6_readStep_144 0 rfl ?_
      refine GG.gm12 C rfl dX6_readStep_145 ?_
      refine GG.if_ne C (tgt := 168) dX6_readStep_148 (by decide) (fun c26 => ?_) (fun c26 => ?_)
      · have hf := if_f hf c26
        refine GG.sub [0, 2, 3] rfl ?_
        exact gX6_readStep_168 C hrec E  _ _ _ hf
      · have hf := if_t hf c26
        refine GG.aload_n C dX6_readStep_151 0 rfl ?_
        obtain ⟨v27, hv27, hf⟩ := obd_some hf
        refine GG.c_X6_203 C rfl (gX6_isEnd hv27) ⟨by first | exact Nat.le_of_ble_eq_true rfl | (dsimp only [rX6_readStep, rX6_isEnd]; omega), by first | exact Nat.le_of_ble_eq_true rfl | (dsimp only [rX6_readStep, rX6_isEnd]; omega)⟩ ⟨by first | exact Nat.le_of_ble_eq_true rfl | (dsimp only [rX6_readStep, rX6_isEnd]; omega), by first | exact Nat.le_of_ble_eq_true rfl | (dsimp only [rX6_readStep, rX6_isEnd]; omega)⟩ (Nat.le_of_ble_eq_true rfl) dX6_readStep_152 ?_
        refine GG.if_ne C (tgt := 168) dX6_readStep_155 (by decide) (fun c28 => ?_) (fun c28 => ?_)
        · have hf := if_f hf c28
          refine GG.sub [0, 2, 3] rfl ?_
          exact gX6_readStep_168 C hrec E  _ _ _ hf
        · have hf := if_t hf c28
          refine GG.aload_n C dX6_readStep_158 0 rfl ?_
          refine GG.iload_n C dX6_readStep_159 1 rfl ?_
          refine GG.iconst C dX6_readStep_160 ic_1 ?_
          refine GG.iadd C dX6_readStep_161 ?_
          obtain ⟨p29, hp29, hf⟩ := obd_some hf
          refine GG.c_X6_422 C rfl (hrec hp29) ⟨by first | exact Nat.le_of_ble_eq_true rfl | (dsimp only [rX6_readStep, rX6_readStep]; omega), by first | exact Nat.le_of_ble_eq_true rfl | (dsimp only [rX6_readStep, rX6_readStep]; omega)⟩ ⟨by first | exact Nat.le_of_ble_eq_true rfl | (dsimp only [rX6_readStep, rX6_readStep]; omega), by first | exact Nat.le_of_ble_eq_true rfl | (dsimp only [rX6_readStep, rX6_readStep]; omega)⟩ (Nat.le_of_ble_eq_true rfl) dX6_readStep_162 ?_
          refine GG.goto C (tgt := 140) dX6_readStep_165 (by decide) ?_
          refine GG.sub [0, 1, 2, 3] rfl ?_
          exact ih _ _ _ _ hf
theorem gX6_readStep_83 {K : gK} {X : gX} {rec : MS → Int32 → Option MS} {d : Nat} {M : XS} (C : gC K X cX6_readStep 5 yX6_readStep none (rX6_readStep (d + 1))) (hrec : ∀ {S : MS} {a1 : Int32} {o : MS}, rec S a1 = some o → gMet K yX6_readStep cX6_readStep 5 none (rX6_readStep d) [.ref (kh K), .int a1] M (some S) none M (some o))  {o : MS} (E : gE K X none M (some o) (rX6_readStep (d + 1)).cells (rX6_readStep (d + 1)).slots)   :
    ∀ (S : MS) (a1 : Int32) (a2 : Int32) (a3 : Int32), fX6_readStep_83 rec S a1 a2 a3 = some o → GG K X 5 0 0 M (some S) 83 [(0, .ref (kh K)), (1, .int a1), (2, .int a2), (3, .int a3)] [] := by
  intro S a1 a2 a3 hf
  unfold fX6_readStep_83 at hf
  refine GG.aload_n C dX6_readStep_83 0 rfl ?_
  refine GG.gm12 C rfl dX6_readStep_84 ?_
  refine GG.if_le C (tgt := 91) dX6_readStep_87 (by decide) (fun c17 => ?_) (fun c17 => ?_)
  · have hf := if_t hf c17
    refine GG.sipush C dX6_readStep_91 sp_1577 ?_
    refine GG.bipush C dX6_readStep_94 bp_7 ?_
    refine GG.aload_n C dX6_readStep_96 0 rfl ?_
    refine GG.gm46 C rfl dX6_readStep_97 ?_
    refine GG.imul C dX6_readStep_100 ?_
    refine GG.iadd C dX6_readStep_101 ?_
    refine GG.topi fun x18 hx18 => ?_
    have hf := ltb_s hx18 hf
    refine GG.istore C (lv' := [(4, .int x18), (0, .ref (kh K)), (1, .int a1), (2, .int a2), (3, .int a3)]) dX6_readStep_102 (by decide) rfl ?_
    refine GG.aload_n C dX6_readStep_104 1 rfl ?_
    refine GG.dup C dX6_readStep_105 rfl ?_
    refine GG.gm46 C rfl dX6_readStep_106 ?_
    refine GG.iconst C dX6_readStep_109 ic_1 ?_
    refine GG.iadd C dX6_readStep_110 ?_
    refine GG.pm46 C rfl dX6_readStep_111 ?_
    refine GG.topS fun S19 hS19 => ?_
    have hf := ltb_s hS19 hf
    refine GG.aload_n C dX6_readStep_114 1 rfl ?_
    obtain ⟨p20, hp20, hf⟩ := obd_some hf
    refine GG.c_X6_219 C rfl (gX6_next hp20) ⟨by first | exact Nat.le_of_ble_eq_true rfl | (dsimp only [rX6_readStep, rX6_next]; omega), by first | exact Nat.le_of_ble_eq_true rfl | (dsimp only [rX6_readStep, rX6_next]; omega)⟩ ⟨by first | exact Nat.le_of_ble_eq_true rfl | (dsimp only [rX6_readStep, rX6_next]; omega), by first | exact Nat.le_of_ble_eq_true rfl | (dsimp only [rX6_readStep, rX6_next]; omega)⟩ (Nat.le_of_ble_eq_true rfl) dX6_readStep_115 ?_
    refine GG.aload_n C dX6_readStep_118 1 rfl ?_
    refine GG.gm20 C rfl dX6_readStep_119 ?_
    refine GG.iload C dX6_readStep_122 0 rfl ?_
    refine GG.iload_n C dX6_readStep_124 3 rfl ?_
    obtain ⟨S21, hS21, hf⟩ := obd_some hf
    refine GG.mis C rfl hS21 dX6_readStep_125 ?_
    refine GG.aload_n C dX6_readStep_126 1 rfl ?_
    refine GG.iload C dX6_readStep_127 0 rfl ?_
    obtain ⟨p22, hp22, hf⟩ := obd_some hf
    refine GG.c_X6_419 C rfl (gX6_readRest hp22) ⟨by first | exact Nat.le_of_ble_eq_true rfl | (dsimp only [rX6_readStep, rX6_readRest]; omega), by first | exact Nat.le_of_ble_eq_true rfl | (dsimp only [rX6_readStep, rX6_readRest]; omega)⟩ ⟨by first | exact Nat.le_of_ble_eq_true rfl | (dsimp only [rX6_readStep, rX6_readRest]; omega), by first | exact Nat.le_of_ble_eq_true rfl | (dsimp only [rX6_readStep, rX6_readRest]; omega)⟩ (Nat.le_of_ble_eq_true rfl) dX6_readStep_129 ?_
    refine GG.aload_n C dX6_readStep_132 1 rfl ?_
    refine GG.aload_n C dX6_readStep_133 1 rfl ?_
    obtain ⟨v23, hv23, hf⟩ := obd_some hf
    refine GG.c_X6_293 C rfl (gX6_isClose hv23) ⟨by first | exact Nat.le_of_ble_eq_true rfl | (dsimp only [rX6_readStep, rX6_isClose]; omega), by first | exact Nat.le_of_ble_eq_true rfl | (dsimp only [rX6_readStep, rX6_isClose]; omega)⟩ ⟨by first | exact Nat.le_of_ble_eq_true rfl | (dsimp only [rX6_readStep, rX6_isClose]; omega), by first | exact Nat.le_of_ble_eq_true rfl | (dsimp only [rX6_readStep, rX6_isClose]; omega)⟩ (Nat.le_of_ble_eq_true rfl) dX6_readStep_134 ?_
    obtain ⟨p24, hp24, hf⟩ := obd_some hf
    refine GG.c_X6_252 C rfl (gX6_must hp24) ⟨by first | exact Nat.le_of_ble_eq_true rfl | (dsimp only [rX6_readStep, rX6_must]; omega), by first | exact Nat.le_of_ble_eq_true rfl | (dsimp only [rX6_readStep, rX6_must]; omega)⟩ ⟨by first | exact Nat.le_of_ble_eq_true rfl | (dsimp only [rX6_readStep, rX6_must]; omega), by first | exact Nat.le_of_ble_eq_true rfl | (dsimp only [rX6_readStep, rX6_must]; omega)⟩ (Nat.le_of_ble_eq_true rfl) dX6_readStep_137 ?_
    refine GG.sub [1, 2, 4, 0] rfl ?_
    exact gX6_readStep_140 C hrec E  FU _ _ _ _ hf
  · have hf := if_f hf c17
    have hf := Option.some.inj hf
    subst hf
    exact GG.vret C E dX6_readStep_90
theorem gX6_readStep_57 {K : gK} {X : gX} {rec : MS → Int32 → Option MS} {d : Nat} {M : XS} (C : gC K X cX6_readStep 5 yX6_readStep none (rX6_readStep (d + 1))) (hrec : ∀ {S : MS} {a1 : Int32} {o : MS}, rec S a1 = some o → gMet K yX6_readStep cX6_readStep 5 none (rX6_readStep d) [.ref (kh K), .int a1] M (some S) none M (some o))  {o : MS} (E : gE K X none M (some o) (rX6_readStep (d + 1)).cells (rX6_readStep (d + 1)).slots)   :
    ∀ (S : MS) (a1 : Int32) (a2 : Int32) (a3 : Int32), fX6_readStep_57 rec S a1 a2 a3 = some o → GG K X 5 0 0 M (some S) 57 [(0, .ref (kh K)), (1, .int a1), (2, .int a2), (3, .int a3)] [] := by
  intro S a1 a2 a3 hf
  unfold fX6_readStep_57 at hf
  refine GG.aload_n C dX6_readStep_57 0 rfl ?_
  refine GG.gm12 C rfl dX6_readStep_58 ?_
  refine GG.if_ne C (tgt := 83) dX6_readStep_61 (by decide) (fun c13 => ?_) (fun c13 => ?_)
  · have hf := if_f hf c13
    refine GG.sub [0, 1, 2, 3] rfl ?_
    exact gX6_readStep_83 C hrec E  _ _ _ _ hf
  · have hf := if_t hf c13
    refine GG.iload_n C dX6_readStep_64 3 rfl ?_
    refine GG.if_eq C (tgt := 83) dX6_readStep_65 (by decide) (fun c14 => ?_) (fun c14 => ?_)
    · have hf := if_t hf c14
      refine GG.sub [0, 1, 2, 3] rfl ?_
      exact gX6_readStep_83 C hrec E  _ _ _ _ hf
    · have hf := if_f hf c14
      refine GG.iload_n C dX6_readStep_68 1 rfl ?_
      refine GG.iconst C dX6_readStep_69 ic_3 ?_
      refine GG.icmp_ne C (tgt := 83) dX6_readStep_70 (by decide) (fun c15 => ?_) (fun c15 => ?_)
      · have hf := if_f hf c15
        refine GG.sub [0, 1, 2, 3] rfl ?_
        exact gX6_readStep_83 C hrec E  _ _ _ _ hf
      · have hf := if_t hf c15
        refine GG.aload_n C dX6_readStep_73 0 rfl ?_
        refine GG.bipush C dX6_readStep_74 bp_7 ?_
        refine GG.aload_n C dX6_readStep_76 0 rfl ?_
        refine GG.gm15 C rfl dX6_readStep_77 ?_
        obtain ⟨p16, hp16, hf⟩ := obd_some hf
        refine GG.c_X6_215 C rfl (gX6_fail hp16) ⟨by first | exact Nat.le_of_ble_eq_true rfl | (dsimp only [rX6_readStep, rX6_fail]; omega), by first | exact Nat.le_of_ble_eq_true rfl | (dsimp only [rX6_readStep, rX6_fail]; omega)⟩ ⟨by first | exact Nat.le_of_ble_eq_true rfl | (dsimp only [rX6_readStep, rX6_fail]; omega), by first | exact Nat.le_of_ble_eq_true rfl | (dsimp only [rX6_readStep, rX6_fail]; omega)⟩ (Nat.le_of_ble_eq_true rfl) dX6_readStep_80 ?_
        refine GG.sub [0, 1, 2, 3] rfl ?_
        exact gX6_readStep_83 C hrec E  _ _ _ _ hf
theorem gX6_readStep_31 {K : gK} {X : gX} {rec : MS → Int32 → Option MS} {d : Nat} {M : XS} (C : gC K X cX6_readStep 5 yX6_readStep none (rX6_readStep (d + 1))) (hrec : ∀ {S : MS} {a1 : Int32} {o : MS}, rec S a1 = some o → gMet K yX6_readStep cX6_readStep 5 none (rX6_readStep d) [.ref (kh K), .int a1] M (some S) none M (some o))  {o : MS} (E : gE K X none M (some o) (rX6_readStep (d + 1)).cells (rX6_readStep (d + 1)).slots)   :
    ∀ (S : MS) (a1 : Int32) (a2 : Int32) (a3 : Int32), fX6_readStep_31 rec S a1 a2 a3 = some o → GG K X 5 0 0 M (some S) 31 [(0, .ref (kh K)), (1, .int a1), (2, .int a2), (3, .int a3)] [] := by
  intro S a1 a2 a3 hf
  unfold fX6_readStep_31 at hf
  refine GG.aload_n C dX6_readStep_31 0 rfl ?_
  refine GG.gm12 C rfl dX6_readStep_32 ?_
  refine GG.if_ne C (tgt := 57) dX6_readStep_35 (by decide) (fun c10 => ?_) (fun c10 => ?_)
  · have hf := if_f hf c10
    refine GG.sub [0, 1, 2, 3] rfl ?_
    exact gX6_readStep_57 C hrec E  _ _ _ _ hf
  · have hf := if_t hf c10
    refine GG.aload_n C dX6_readStep_38 0 rfl ?_
    refine GG.gm46 C rfl dX6_readStep_39 ?_
    refine GG.bipush C dX6_readStep_42 bp_30 ?_
    refine GG.icmp_ne C (tgt := 57) dX6_readStep_44 (by decide) (fun c11 => ?_) (fun c11 => ?_)
    · have hf := if_f hf c11
      refine GG.sub [0, 1, 2, 3] rfl ?_
      exact gX6_readStep_57 C hrec E  _ _ _ _ hf
    · have hf := if_t hf c11
      refine GG.aload_n C dX6_readStep_47 0 rfl ?_
      refine GG.bipush C dX6_readStep_48 bp_6 ?_
      refine GG.aload_n C dX6_readStep_50 0 rfl ?_
      refine GG.gm15 C rfl dX6_readStep_51 ?_
      obtain ⟨p12, hp12, hf⟩ := obd_some hf
      refine GG.c_X6_215 C rfl (gX6_fail hp12) ⟨by first | exact Nat.le_of_ble_eq_true rfl | (dsimp only [rX6_readStep, rX6_fail]; omega), by first | exact Nat.le_of_ble_eq_true rfl | (dsimp only [rX6_readStep, rX6_fail]; omega)⟩ ⟨by first | exact Nat.le_of_ble_eq_true rfl | (dsimp only [rX6_readStep, rX6_fail]; omega), by first | exact Nat.le_of_ble_eq_true rfl | (dsimp only [rX6_readStep, rX6_fail]; omega)⟩ (Nat.le_of_ble_eq_true rfl) dX6_readStep_54 ?_
      refine GG.sub [0, 1, 2, 3] rfl ?_
      exact gX6_readStep_57 C hrec E  _ _ _ _ hf
theorem gX6_readStep_b {K : gK} {rec : MS → Int32 → Option MS} {d : Nat} {M : XS} (hrec : ∀ {S : MS} {a1 : Int32} {o : MS}, rec S a1 = some o → gMet K yX6_readStep cX6_readStep 5 none (rX6_readStep d) [.ref (kh K), .int a1] M (some S) none M (some o)) {S : MS} {a1 : Int32} {o : MS} (hf : fX6_readStep_b rec S a1 = some o) : gMet K yX6_readStep cX6_readStep 5 none (rX6_readStep (d + 1)) [(.ref (kh K)), (.int a1)] M (some S) none M (some o) := by
  refine gMet.of pn_X6 (Nat.le_of_ble_eq_true rfl) fun X C E => ?_
  unfold fX6_readStep_b at hf
  show GG K X 5 0 0 M (some S) 0 [(0, .ref (kh K)), (1, .int a1)] []
  refine GG.aload_n C dX6_readStep_0 0 rfl ?_
  obtain ⟨v1, hv1, hf⟩ := obd_some hf
  refine GG.c_X6_179 C rfl (gX6_stepWord hv1) ⟨by first | exact Nat.le_of_ble_eq_true rfl | (dsimp only [rX6_readStep, rX6_stepWord]; omega), by first | exact Nat.le_of_ble_eq_true rfl | (dsimp only [rX6_readStep, rX6_stepWord]; omega)⟩ ⟨by first | exact Nat.le_of_ble_eq_true rfl | (dsimp only [rX6_readStep, rX6_stepWord]; omega), by first | exact Nat.le_of_ble_eq_true rfl | (dsimp only [rX6_readStep, rX6_stepWord]; omega)⟩ (Nat.le_of_ble_eq_true rfl) dX6_readStep_1 ?_
  refine GG.istore_n C (lv' := [(2, .int v1), (0, .ref (kh K)), (1, .int a1)]) dX6_readStep_4 (by decide) rfl ?_
  refine GG.iload_n C dX6_readStep_5 0 rfl ?_
  refine GG.bipush C dX6_readStep_6 bp_6 ?_
  refine GG.icmp_eq C (tgt := 17) dX6_readStep_8 (by decide) (fun c2 => ?_) (fun c2 => ?_)
  · have hf := if_t hf c2
    refine GG.iconst C dX6_readStep_17 ic_1 ?_
    refine GG.goto C (tgt := 22) dX6_readStep_18 (by decide) ?_
    refine GG.istore_n C (lv' := [(3, .int (nI 1)), (2, .int v1), (0, .ref (kh K)), (1, .int a1)]) dX6_readStep_22 (by decide) rfl ?_
    refine GG.iload_n C dX6_readStep_23 1 rfl ?_
    refine GG.if_ge C (tgt := 31) dX6_readStep_24 (by decide) (fun c3 => ?_) (fun c3 => ?_)
    · have hf := if_t hf c3
      refine GG.sub [2, 3, 1, 0] rfl ?_
      exact gX6_readStep_31 C hrec E  _ _ _ _ hf
    · have hf := if_f hf c3
      refine GG.aload_n C dX6_readStep_27 2 rfl ?_
      obtain ⟨p4, hp4, hf⟩ := obd_some hf
      refine GG.c_X6_222 C rfl (gX6_wrong hp4) ⟨by first | exact Nat.le_of_ble_eq_true rfl | (dsimp only [rX6_readStep, rX6_wrong]; omega), by first | exact Nat.le_of_ble_eq_true rfl | (dsimp only [rX6_readStep, rX6_wrong]; omega)⟩ ⟨by first | exact Nat.le_of_ble_eq_true rfl | (dsimp only [rX6_readStep, rX6_wrong]; omega), by first | exact Nat.le_of_ble_eq_true rfl | (dsimp only [rX6_readStep, rX6_wrong]; omega)⟩ (Nat.le_of_ble_eq_true rfl) dX6_readStep_28 ?_
      refine GG.sub [2, 3, 1, 0] rfl ?_
      exact gX6_readStep_31 C hrec E  _ _ _ _ hf
  · have hf := if_f hf c2
    refine GG.iload_n C dX6_readStep_11 0 rfl ?_
    refine GG.bipush C dX6_readStep_12 bp_7 ?_
    refine GG.icmp_ne C (tgt := 21) dX6_readStep_14 (by decide) (fun c5 => ?_) (fun c5 => ?_)
    · have hf := if_f hf c5
      refine GG.iconst C dX6_readStep_21 ic_0 ?_
      refine GG.istore_n C (lv' := [(3, .int (nI 0)), (2, .int v1), (0, .ref (kh K)), (1, .int a1)]) dX6_readStep_22 (by decide) rfl ?_
      refine GG.iload_n C dX6_readStep_23 1 rfl ?_
      refine GG.if_ge C (tgt := 31) dX6_readStep_24 (by decide) (fun c6 => ?_) (fun c6 => ?_)
      · have hf := if_t hf c6
        refine GG.sub [2, 3, 1, 0] rfl ?_
        exact gX6_readStep_31 C hrec E  _ _ _ _ hf
      · have hf := if_f hf c6
        refine GG.aload_n C dX6_readStep_27 2 rfl ?_
        obtain ⟨p7, hp7, hf⟩ := obd_some hf
        refine GG.c_X6_222 C rfl (gX6_wrong hp7) ⟨by first | exact Nat.le_of_ble_eq_true rfl | (dsimp only [rX6_readStep, rX6_wrong]; omega), by first | exact Nat.le_of_ble_eq_true rfl | (dsimp only [rX6_readStep, rX6_wrong]; omega)⟩ ⟨by first | exact Nat.le_of_ble_eq_true rfl | (dsimp only [rX6_readStep, rX6_wrong]; omega), by first | exact Nat.le_of_ble_eq_true rfl | (dsimp only [rX6_readStep, rX6_wrong]; omega)⟩ (Nat.le_of_ble_eq_true rfl) dX6_readStep_28 ?_
        refine GG.sub [2, 3, 1, 0] rfl ?_
        exact gX6_readStep_31 C hrec E  _ _ _ _ hf
    · have hf := if_t hf c5
      refine GG.iconst C dX6_readStep_17 ic_1 ?_
      refine GG.goto C (tgt := 22) dX6_readStep_18 (by decide) ?_
      refine GG.istore_n C (lv' := [(3, .int (nI 1)), (2, .int v1), (0, .ref (kh K)), (1, .int a1)]) dX6_readStep_22 (by decide) rfl ?_
      refine GG.iload_n C dX6_readStep_23 1 rfl ?_
      refine GG.if_ge C (tgt := 31) dX6_readStep_24 (by decide) (fun c8 => ?_) (fun c8 => ?_)
      · have hf := if_t hf c8
        refine GG.sub [2, 3, 1, 0] rfl ?_
        exact gX6_readStep_31 C hrec E  _ _ _ _ hf
      · have hf := if_f hf c8
        refine GG.aload_n C dX6_readStep_27 2 rfl ?_
        obtain ⟨p9, hp9, hf⟩ := obd_some hf
        refine GG.c_X6_222 C rfl (gX6_wrong hp9) ⟨by first | exact Nat.le_of_ble_eq_true rfl | (dsimp only [rX6_readStep, rX6_wrong]; omega), by first | exact Nat.le_of_ble_eq_true rfl | (dsimp only [rX6_readStep, rX6_wrong]; omega)⟩ ⟨by first | exact Nat.le_of_ble_eq_true rfl | (dsimp only [rX6_readStep, rX6_wrong]; omega), by first | exact Nat.le_of_ble_eq_true rfl | (dsimp only [rX6_readStep, rX6_wrong]; omega)⟩ (Nat.le_of_ble_eq_true rfl) dX6_readStep_28 ?_
        refine GG.sub [2, 3, 1, 0] rfl ?_
        exact gX6_readStep_31 C hrec E  _ _ _ _ hf
theorem gX6_readStep {K : gK} {M : XS} : ∀ (d : Nat) {S : MS} {a1 : Int32} {o : MS}, fX6_readStep d S a1 = some o → gMet K yX6_readStep cX6_readStep 5 none (rX6_readStep d) [(.ref (kh K)), (.int a1)] M (some S) none M (some o) := by
  intro d
  induction d with
  | zero => intro S a1 o hf; cases hf
  | succ d ih =>
    intro S a1 o hf
    rw [fX6_readStep] at hf
    exact gX6_readStep_b ih hf
theorem gX6_log_82 {K : gK} {X : gX} {M : XS} (C : gC K X cX6_log 3 yX6_log (some Jvm.ClassFile.FieldType.int) rX6_log)  {o : (Int32 × MS)} (E : gE K X (some (.int o.1)) M (some o.2) rX6_log.cells rX6_log.slots)   :
    ∀ (n : Nat) (S : MS) (a2 : Int32), fX6_log_82  n S a2 = some o → GG K X 3 0 0 M (some S) 82 [(0, .ref (kh K)), (2, .int a2)] [] := by
  intro n
  induction n with
  | zero => intro S a2 hf; cases hf
  | succ n ih =>
    intro S a2 hf
    rw [fX6_log_82] at hf
    refine GG.iload_n C dX6_log_82 1 rfl ?_
    refine GG.bipush C dX6_log_83 bp_7 ?_
    refine GG.aload_n C dX6_log_85 0 rfl ?_
    refine GG.gm46 C rfl dX6_log_86 ?_
    refine GG.imul C dX6_log_89 ?_
    refine GG.icmp_ge C (tgt := 119) dX6_log_90 (by decide) (fun c13 => ?_) (fun c13 => ?_)
    · have hf := if_t hf c13
      refine GG.aload_n C dX6_log_119 0 rfl ?_
      refine GG.gm46 C rfl dX6_log_120 ?_
      have hf := Option.some.inj hf
      subst hf
      exact GG.iret C E dX6_log_123
    · have hf := if_f hf c13
      refine GG.aload_n C dX6_log_93 0 rfl ?_
      refine GG.gm20 C rfl dX6_log_94 ?_
      refine GG.sipush C dX6_log_97 sp_137 ?_
      refine GG.iload_n C dX6_log_100 1 rfl ?_
      refine GG.iadd C dX6_log_101 ?_
      refine GG.aload_n C dX6_log_102 0 rfl ?_
      refine GG.gm20 C rfl dX6_log_103 ?_
      refine GG.sipush C dX6_log_106 sp_1577 ?_
      refine GG.iload_n C dX6_log_109 1 rfl ?_
      refine GG.iadd C dX6_log_110 ?_
      obtain ⟨v14, hv14, hf⟩ := obd_some hf
      refine GG.mi C rfl hv14 dX6_log_111 ?_
      obtain ⟨S15, hS15, hf⟩ := obd_some hf
      refine GG.mis C rfl hS15 dX6_log_112 ?_
      refine GG.iinc C (v := (a2 + (nI 1))) (lv' := [(2, .int (a2 + (nI 1))), (0, .ref (kh K))]) dX6_log_113 1 rfl (congrArg (a2 + ·) ic_1) (by decide) rfl ?_
      refine GG.goto C (tgt := 82) dX6_log_116 (by decide) ?_
      refine GG.sub [1, 0] rfl ?_
      exact ih _ _ hf
theorem gX6_log_50 {K : gK} {X : gX} {M : XS} (C : gC K X cX6_log 3 yX6_log (some Jvm.ClassFile.FieldType.int) rX6_log)  {o : (Int32 × MS)} (E : gE K X (some (.int o.1)) M (some o.2) rX6_log.cells rX6_log.slots)   :
    ∀ (S : MS), fX6_log_50  S = some o → GG K X 3 0 0 M (some S) 50 [(0, .ref (kh K))] [] := by
  intro S hf
  unfold fX6_log_50 at hf
  refine GG.aload_n C dX6_log_50 0 rfl ?_
  obtain ⟨p9, hp9, hf⟩ := obd_some hf
  refine GG.c_X6_296 C rfl (gX6_isWell hp9) ⟨Nat.le_of_ble_eq_true rfl, Nat.le_of_ble_eq_true rfl⟩ ⟨Nat.le_of_ble_eq_true rfl, Nat.le_of_ble_eq_true rfl⟩ (Nat.le_of_ble_eq_true rfl) dX6_log_51 ?_
  refine GG.if_ne C (tgt := 59) dX6_log_54 (by decide) (fun c10 => ?_) (fun c10 => ?_)
  · have hf := if_f hf c10
    refine GG.aload_n C dX6_log_59 0 rfl ?_
    refine GG.gm20 C rfl dX6_log_60 ?_
    refine GG.sipush C dX6_log_63 sp_135 ?_
    refine GG.iconst C dX6_log_66 ic_1 ?_
    obtain ⟨S11, hS11, hf⟩ := obd_some hf
    refine GG.mis C rfl hS11 dX6_log_67 ?_
    refine GG.aload_n C dX6_log_68 0 rfl ?_
    refine GG.gm20 C rfl dX6_log_69 ?_
    refine GG.sipush C dX6_log_72 sp_136 ?_
    refine GG.aload_n C dX6_log_75 0 rfl ?_
    refine GG.gm46 C rfl dX6_log_76 ?_
    obtain ⟨S12, hS12, hf⟩ := obd_some hf
    refine GG.mis C rfl hS12 dX6_log_79 ?_
    refine GG.iconst C dX6_log_80 ic_0 ?_
    refine GG.istore_n C (lv' := [(2, .int (nI 0)), (0, .ref (kh K))]) dX6_log_81 (by decide) rfl ?_
    refine GG.sub [1, 0] rfl ?_
    exact gX6_log_82 C E  FU _ _ hf
  · have hf := if_t hf c10
    refine GG.iconst C dX6_log_57 ic_m1 ?_
    have hf := Option.some.inj hf
    subst hf
    exact GG.iret C E dX6_log_58
theorem gX6_log_28 {K : gK} {X : gX} {M : XS} (C : gC K X cX6_log 3 yX6_log (some Jvm.ClassFile.FieldType.int) rX6_log)  {o : (Int32 × MS)} (E : gE K X (some (.int o.1)) M (some o.2) rX6_log.cells rX6_log.slots)   :
    ∀ (n : Nat) (S : MS), fX6_log_28  n S = some o → GG K X 3 0 0 M (some S) 28 [(0, .ref (kh K))] [] := by
  intro n
  induction n with
  | zero => intro S hf; cases hf
  | succ n ih =>
    intro S hf
    rw [fX6_log_28] at hf
    refine GG.aload_n C dX6_log_28 0 rfl ?_
    refine GG.gm12 C rfl dX6_log_29 ?_
    refine GG.if_ne C (tgt := 50) dX6_log_32 (by decide) (fun c6 => ?_) (fun c6 => ?_)
    · have hf := if_f hf c6
      refine GG.sub [0] rfl ?_
      exact gX6_log_50 C E  _ hf
    · have hf := if_t hf c6
      refine GG.aload_n C dX6_log_35 0 rfl ?_
      refine GG.gm14 C rfl dX6_log_36 ?_
      refine GG.if_eq C (tgt := 50) dX6_log_39 (by decide) (fun c7 => ?_) (fun c7 => ?_)
      · have hf := if_t hf c7
        refine GG.sub [0] rfl ?_
        exact gX6_log_50 C E  _ hf
      · have hf := if_f hf c7
        refine GG.aload_n C dX6_log_42 0 rfl ?_
        refine GG.iconst C dX6_log_43 ic_0 ?_
        obtain ⟨p8, hp8, hf⟩ := obd_some hf
        refine GG.c_X6_422 C rfl (gX6_readStep DU hp8) ⟨Nat.le_of_ble_eq_true rfl, Nat.le_of_ble_eq_true rfl⟩ ⟨Nat.le_of_ble_eq_true rfl, Nat.le_of_ble_eq_true rfl⟩ (Nat.le_of_ble_eq_true rfl) dX6_log_44 ?_
        refine GG.goto C (tgt := 28) dX6_log_47 (by decide) ?_
        refine GG.sub [0] rfl ?_
        exact ih _ hf
theorem gX6_log {K : gK} {M : XS}  {S : MS} {a1 : Int32} {o : (Int32 × MS)} (hf : fX6_log S a1 = some o) : gMet K yX6_log cX6_log 3 (some Jvm.ClassFile.FieldType.int) rX6_log [(.ref (kh K)), (.int a1)] M (some S) (some (.int o.1)) M (some o.2) := by
  refine gMet.of pn_X6 (Nat.le_of_ble_eq_true rfl) fun X C E => ?_
  unfold fX6_log at hf
  show GG K X 3 0 0 M (some S) 0 [(0, .ref (kh K)), (1, .int a1)] []
  refine GG.aload_n C dX6_log_0 0 rfl ?_
  refine GG.iconst C dX6_log_1 ic_0 ?_
  refine GG.pm1 C rfl dX6_log_2 ?_
  refine GG.topS fun S1 hS1 => ?_
  have hf := ltb_s hS1 hf
  refine GG.aload_n C dX6_log_5 0 rfl ?_
  refine GG.iconst C dX6_log_6 ic_0 ?_
  refine GG.pm0 C rfl dX6_log_7 ?_
  refine GG.topS fun S2 hS2 => ?_
  have hf := ltb_s hS2 hf
  refine GG.aload_n C dX6_log_10 0 rfl ?_
  refine GG.iload_n C dX6_log_11 1 rfl ?_
  refine GG.sipush C dX6_log_12 sp_300 ?_
  obtain ⟨p3, hp3, hf⟩ := obd_some hf
  refine GG.c_X6_284 C rfl (gX6_opens hp3) ⟨Nat.le_of_ble_eq_true rfl, Nat.le_of_ble_eq_true rfl⟩ ⟨Nat.le_of_ble_eq_true rfl, Nat.le_of_ble_eq_true rfl⟩ (Nat.le_of_ble_eq_true rfl) dX6_log_15 ?_
  refine GG.if_ne C (tgt := 23) dX6_log_18 (by decide) (fun c4 => ?_) (fun c4 => ?_)
  · have hf := if_f hf c4
    refine GG.aload_n C dX6_log_23 0 rfl ?_
    refine GG.iconst C dX6_log_24 ic_0 ?_
    refine GG.pm46 C rfl dX6_log_25 ?_
    refine GG.topS fun S5 hS5 => ?_
    have hf := ltb_s hS5 hf
    refine GG.sub [0] rfl ?_
    exact gX6_log_28 C E  FU _ hf
  · have hf := if_t hf c4
    refine GG.iconst C dX6_log_21 ic_m1 ?_
    have hf := Option.some.inj hf
    subst hf
    exact GG.iret C E dX6_log_22
theorem gX6_doAt_109 {K : gK} {X : gX} {M : XS} (C : gC K X cX6_doAt 6 yX6_doAt none rX6_doAt)  {o : MS} (E : gE K X none M (some o) rX6_doAt.cells rX6_doAt.slots)   :
    ∀ (n : Nat) (S : MS) (a1 : Int32) (a2 : Int32) (a3 : Int32) (a4 : Int32) (a5 : Int32), fX6_doAt_109  n S a1 a2 a3 a4 a5 = some o → GG K X 6 0 0 M (some S) 109 [(0, .ref (kh K)), (1, .int a1), (2, .int a2), (3, .int a3), (4, .int a4), (5, .int a5)] [] := by
  intro n
  induction n with
  | zero => intro S a1 a2 a3 a4 a5 hf; cases hf
  | succ n ih =>
    intro S a1 a2 a3 a4 a5 hf
    rw [fX6_doAt_109] at hf
    refine GG.iload C dX6_doAt_109 5 rfl ?_
    refine GG.aload_n C dX6_doAt_111 0 rfl ?_
    refine GG.gm20 C rfl dX6_doAt_112 ?_
    refine GG.iconst C dX6_doAt_115 ic_1 ?_
    obtain ⟨v19, hv19, hf⟩ := obd_some hf
    refine GG.mi C rfl hv19 dX6_doAt_116 ?_
    refine GG.icmp_ge C (tgt := 160) dX6_doAt_117 (by decide) (fun c20 => ?_) (fun c20 => ?_)
    · have hf := if_t hf c20
      refine GG.iload C dX6_doAt_160 4 rfl ?_
      refine GG.if_eq C (tgt := 190) dX6_doAt_162 (by decide) (fun c21 => ?_) (fun c21 => ?_)
      · have hf := if_t hf c21
        refine GG.aload_n C dX6_doAt_190 0 rfl ?_
        refine GG.dup C dX6_doAt_191 rfl ?_
        refine GG.gm40 C rfl dX6_doAt_192 ?_
        refine GG.iconst C dX6_doAt_195 ic_1 ?_
        refine GG.iadd C dX6_doAt_196 ?_
        refine GG.pm40 C rfl dX6_doAt_197 ?_
        refine GG.topS fun S22 hS22 => ?_
        have hf := ltb_s hS22 hf
        have hf := Option.some.inj hf
        subst hf
        exact GG.vret C E dX6_doAt_200
      · have hf := if_f hf c21
        refine GG.aload_n C dX6_doAt_165 0 rfl ?_
        refine GG.gm20 C rfl dX6_doAt_166 ?_
        refine GG.bipush C dX6_doAt_169 bp_114 ?_
        refine GG.iload_n C dX6_doAt_171 3 rfl ?_
        refine GG.iadd C dX6_doAt_172 ?_
        refine GG.topi fun x23 hx23 => ?_
        have hf := ltb_s hx23 hf
        refine GG.dup2 C dX6_doAt_173 rfl rfl ?_
        obtain ⟨v24, hv24, hf⟩ := obd_some hf
        refine GG.mi C rfl hv24 dX6_doAt_174 ?_
        refine GG.iconst C dX6_doAt_175 ic_1 ?_
        refine GG.iload_n C dX6_doAt_176 2 rfl ?_
        refine GG.ishl C dX6_doAt_177 ?_
        refine GG.aload_n C dX6_doAt_178 0 rfl ?_
        refine GG.iconst C dX6_doAt_179 ic_0 ?_
        refine GG.iload_n C dX6_doAt_180 2 rfl ?_
        obtain ⟨v25, hv25, hf⟩ := obd_some hf
        refine GG.c_X6_249 C rfl (gX6_hangsOn hv25) ⟨Nat.le_of_ble_eq_true rfl, Nat.le_of_ble_eq_true rfl⟩ ⟨Nat.le_of_ble_eq_true rfl, Nat.le_of_ble_eq_true rfl⟩ (Nat.le_of_ble_eq_true rfl) dX6_doAt_181 ?_
        refine GG.ior C dX6_doAt_184 ?_
        refine GG.ior C dX6_doAt_185 ?_
        obtain ⟨S26, hS26, hf⟩ := obd_some hf
        refine GG.mis C rfl hS26 dX6_doAt_186 ?_
        refine GG.goto C (tgt := 200) dX6_doAt_187 (by decide) ?_
        have hf := Option.some.inj hf
        subst hf
        exact GG.vret C E dX6_doAt_200
    · have hf := if_f hf c20
      refine GG.iload C dX6_doAt_120 4 rfl ?_
      refine GG.if_ne C (tgt := 147) dX6_doAt_122 (by decide) (fun c27 => ?_) (fun c27 => ?_)
      · have hf := if_f hf c27
        refine GG.iconst C dX6_doAt_147 ic_1 ?_
        refine GG.goto C (tgt := 152) dX6_doAt_148 (by decide) ?_
        refine GG.istore C (lv' := [(4, .int (nI 1)), (0, .ref (kh K)), (1, .int a1), (2, .int a2), (3, .int a3), (5, .int a5)]) dX6_doAt_152 (by decide) rfl ?_
        refine GG.iinc C (v := (a5 + (nI 1))) (lv' := [(5, .int (a5 + (nI 1))), (4, .int (nI 1)), (0, .ref (kh K)), (1, .int a1), (2, .int a2), (3, .int a3)]) dX6_doAt_154 5 rfl (congrArg (a5 + ·) ic_1) (by decide) rfl ?_
        refine GG.goto C (tgt := 109) dX6_doAt_157 (by decide) ?_
        refine GG.sub [2, 3, 4, 5, 1, 0] rfl ?_
        exact ih _ _ _ _ _ _ hf
      · have hf := if_t hf c27
        refine GG.iload_n C dX6_doAt_125 1 rfl ?_
        refine GG.iconst C dX6_doAt_126 ic_3 ?_
        refine GG.icmp_ne C (tgt := 151) dX6_doAt_127 (by decide) (fun c28 => ?_) (fun c28 => ?_)
        · have hf := if_f hf c28
          refine GG.iconst C dX6_doAt_151 ic_0 ?_
          refine GG.istore C (lv' := [(4, .int (nI 0)), (0, .ref (kh K)), (1, .int a1), (2, .int a2), (3, .int a3), (5, .int a5)]) dX6_doAt_152 (by decide) rfl ?_
          refine GG.iinc C (v := (a5 + (nI 1))) (lv' := [(5, .int (a5 + (nI 1))), (4, .int (nI 0)), (0, .ref (kh K)), (1, .int a1), (2, .int a2), (3, .int a3)]) dX6_doAt_154 5 rfl (congrArg (a5 + ·) ic_1) (by decide) rfl ?_
          refine GG.goto C (tgt := 109) dX6_doAt_157 (by decide) ?_
          refine GG.sub [2, 3, 4, 5, 1, 0] rfl ?_
          exact ih _ _ _ _ _ _ hf
        · have hf := if_t hf c28
          refine GG.aload_n C dX6_doAt_130 0 rfl ?_
          refine GG.gm20 C rfl dX6_doAt_131 ?_
          refine GG.bipush C dX6_doAt_134 bp_114 ?_
          refine GG.iload C dX6_doAt_136 5 rfl ?_
          refine GG.iadd C dX6_doAt_138 ?_
          obtain ⟨v29, hv29, hf⟩ := obd_some hf
          refine GG.mi C rfl hv29 dX6_doAt_139 ?_
          refine GG.iload_n C dX6_doAt_140 2 rfl ?_
          obtain ⟨v30, hv30, hf⟩ := obd_some hf
          refine GG.c_X6_302 C rfl (gX6_hasIn hv30) ⟨Nat.le_of_ble_eq_true rfl, Nat.le_of_ble_eq_true rfl⟩ ⟨Nat.le_of_ble_eq_true rfl, Nat.le_of_ble_eq_true rfl⟩ (Nat.le_of_ble_eq_true rfl) dX6_doAt_141 ?_
          refine GG.if_eq C (tgt := 151) dX6_doAt_144 (by decide) (fun c31 => ?_) (fun c31 => ?_)
          · have hf := if_t hf c31
            refine GG.iconst C dX6_doAt_151 ic_0 ?_
            refine GG.istore C (lv' := [(4, .int (nI 0)), (0, .ref (kh K)), (1, .int a1), (2, .int a2), (3, .int a3), (5, .int a5)]) dX6_doAt_152 (by decide) rfl ?_
            refine GG.iinc C (v := (a5 + (nI 1))) (lv' := [(5, .int (a5 + (nI 1))), (4, .int (nI 0)), (0, .ref (kh K)), (1, .int a1), (2, .int a2), (3, .int a3)]) dX6_doAt_154 5 rfl (congrArg (a5 + ·) ic_1) (by decide) rfl ?_
            refine GG.goto C (tgt := 109) dX6_doAt_157 (by decide) ?_
            refine GG.sub [2, 3, 4, 5, 1, 0] rfl ?_
            exact ih _ _ _ _ _ _ hf
          · have hf := if_f hf c31
            refine GG.iconst C dX6_doAt_147 ic_1 ?_
            refine GG.goto C (tgt := 152) dX6_doAt_148 (by decide) ?_
            refine GG.istore C (lv' := [(4, .int (nI 1)), (0, .ref (kh K)), (1, .int a1), (2, .int a2), (3, .int a3), (5, .int a5)]) dX6_doAt_152 (by decide) rfl ?_
            refine GG.iinc C (v := (a5 + (nI 1))) (lv' := [(5, .int (a5 + (nI 1))), (4, .int (nI 1)), (0, .ref (kh K)), (1, .int a1), (2, .int a2), (3, .int a3)]) dX6_doAt_154 5 rfl (congrArg (a5 + ·) ic_1) (by decide) rfl ?_
            refine GG.goto C (tgt := 109) dX6_doAt_157 (by decide) ?_
            refine GG.sub [2, 3, 4, 5, 1, 0] rfl ?_
            exact ih _ _ _ _ _ _ hf
theorem gX6_doAt {K : gK} {M : XS}  {S : MS} {a1 : Int32} {a2 : Int32} {a3 : Int32} {o : MS} (hf : fX6_doAt S a1 a2 a3 = some o) : gMet K yX6_doAt cX6_doAt 6 none rX6_doAt [(.ref (kh K)), (.int a1), (.int a2), (.int a3)] M (some S) none M (some o) := by
  refine gMet.of pn_X6 (Nat.le_of_ble_eq_true rfl) fun X C E => ?_
  unfold fX6_doAt at hf
  show GG K X 6 0 0 M (some S) 0 [(0, .ref (kh K)), (1, .int a1), (2, .int a2), (3, .int a3)] []
  refine GG.aload_n C dX6_doAt_0 0 rfl ?_
  refine GG.iload_n C dX6_doAt_1 2 rfl ?_
  obtain ⟨v1, hv1, hf⟩ := obd_some hf
  refine GG.c_X6_311 C rfl (gX6_isChange hv1) ⟨Nat.le_of_ble_eq_true rfl, Nat.le_of_ble_eq_true rfl⟩ ⟨Nat.le_of_ble_eq_true rfl, Nat.le_of_ble_eq_true rfl⟩ (Nat.le_of_ble_eq_true rfl) dX6_doAt_2 ?_
  refine GG.if_eq C (tgt := 16) dX6_doAt_5 (by decide) (fun c2 => ?_) (fun c2 => ?_)
  · have hf := if_t hf c2
    refine GG.aload_n C dX6_doAt_16 0 rfl ?_
    refine GG.dup C dX6_doAt_17 rfl ?_
    refine GG.gm40 C rfl dX6_doAt_18 ?_
    refine GG.iconst C dX6_doAt_21 ic_1 ?_
    refine GG.iadd C dX6_doAt_22 ?_
    refine GG.pm40 C rfl dX6_doAt_23 ?_
    refine GG.topS fun S3 hS3 => ?_
    have hf := ltb_s hS3 hf
    have hf := Option.some.inj hf
    subst hf
    exact GG.vret C E dX6_doAt_26
  · have hf := if_f hf c2
    refine GG.aload_n C dX6_doAt_8 0 rfl ?_
    refine GG.iload_n C dX6_doAt_9 3 rfl ?_
    obtain ⟨v4, hv4, hf⟩ := obd_some hf
    refine GG.c_X6_403 C rfl (gX6_isIsland hv4) ⟨Nat.le_of_ble_eq_true rfl, Nat.le_of_ble_eq_true rfl⟩ ⟨Nat.le_of_ble_eq_true rfl, Nat.le_of_ble_eq_true rfl⟩ (Nat.le_of_ble_eq_true rfl) dX6_doAt_10 ?_
    refine GG.if_ne C (tgt := 27) dX6_doAt_13 (by decide) (fun c5 => ?_) (fun c5 => ?_)
    · have hf := if_f hf c5
      refine GG.iload_n C dX6_doAt_27 1 rfl ?_
      refine GG.iconst C dX6_doAt_28 ic_2 ?_
      refine GG.icmp_ne C (tgt := 74) dX6_doAt_29 (by decide) (fun c6 => ?_) (fun c6 => ?_)
      · have hf := if_f hf c6
        refine GG.iload_n C dX6_doAt_74 1 rfl ?_
        refine GG.if_ne C (tgt := 103) dX6_doAt_75 (by decide) (fun c7 => ?_) (fun c7 => ?_)
        · have hf := if_f hf c7
          refine GG.iconst C dX6_doAt_103 ic_0 ?_
          refine GG.istore C (lv' := [(4, .int (nI 0)), (0, .ref (kh K)), (1, .int a1), (2, .int a2), (3, .int a3)]) dX6_doAt_104 (by decide) rfl ?_
          refine GG.iconst C dX6_doAt_106 ic_0 ?_
          refine GG.istore C (lv' := [(5, .int (nI 0)), (4, .int (nI 0)), (0, .ref (kh K)), (1, .int a1), (2, .int a2), (3, .int a3)]) dX6_doAt_107 (by decide) rfl ?_
          refine GG.sub [2, 3, 4, 5, 1, 0] rfl ?_
          exact gX6_doAt_109 C E  FU _ _ _ _ _ _ hf
        · have hf := if_t hf c7
          refine GG.aload_n C dX6_doAt_78 0 rfl ?_
          refine GG.iconst C dX6_doAt_79 ic_0 ?_
          refine GG.iload_n C dX6_doAt_80 2 rfl ?_
          obtain ⟨v8, hv8, hf⟩ := obd_some hf
          refine GG.c_X6_249 C rfl (gX6_hangsOn hv8) ⟨Nat.le_of_ble_eq_true rfl, Nat.le_of_ble_eq_true rfl⟩ ⟨Nat.le_of_ble_eq_true rfl, Nat.le_of_ble_eq_true rfl⟩ (Nat.le_of_ble_eq_true rfl) dX6_doAt_81 ?_
          refine GG.aload_n C dX6_doAt_84 0 rfl ?_
          refine GG.gm20 C rfl dX6_doAt_85 ?_
          refine GG.bipush C dX6_doAt_88 bp_114 ?_
          refine GG.iload_n C dX6_doAt_90 3 rfl ?_
          refine GG.iadd C dX6_doAt_91 ?_
          obtain ⟨v9, hv9, hf⟩ := obd_some hf
          refine GG.mi C rfl hv9 dX6_doAt_92 ?_
          refine GG.iconst C dX6_doAt_93 ic_m1 ?_
          refine GG.ixor C dX6_doAt_94 ?_
          refine GG.iand C dX6_doAt_95 ?_
          refine GG.if_ne C (tgt := 103) dX6_doAt_96 (by decide) (fun c10 => ?_) (fun c10 => ?_)
          · have hf := if_f hf c10
            refine GG.iconst C dX6_doAt_103 ic_0 ?_
            refine GG.istore C (lv' := [(4, .int (nI 0)), (0, .ref (kh K)), (1, .int a1), (2, .int a2), (3, .int a3)]) dX6_doAt_104 (by decide) rfl ?_
            refine GG.iconst C dX6_doAt_106 ic_0 ?_
            refine GG.istore C (lv' := [(5, .int (nI 0)), (4, .int (nI 0)), (0, .ref (kh K)), (1, .int a1), (2, .int a2), (3, .int a3)]) dX6_doAt_107 (by decide) rfl ?_
            refine GG.sub [2, 3, 4, 5, 1, 0] rfl ?_
            exact gX6_doAt_109 C E  FU _ _ _ _ _ _ hf
          · have hf := if_t hf c10
            refine GG.iconst C dX6_doAt_99 ic_1 ?_
            refine GG.goto C (tgt := 104) dX6_doAt_100 (by decide) ?_
            refine GG.istore C (lv' := [(4, .int (nI 1)), (0, .ref (kh K)), (1, .int a1), (2, .int a2), (3, .int a3)]) dX6_doAt_104 (by decide) rfl ?_
            refine GG.iconst C dX6_doAt_106 ic_0 ?_
            refine GG.istore C (lv' := [(5, .int (nI 0)), (4, .int (nI 1)), (0, .ref (kh K)), (1, .int a1), (2, .int a2), (3, .int a3)]) dX6_doAt_107 (by decide) rfl ?_
            refine GG.sub [2, 3, 4, 5, 1, 0] rfl ?_
            exact gX6_doAt_109 C E  FU _ _ _ _ _ _ hf
      · have hf := if_t hf c6
        refine GG.aload_n C dX6_doAt_32 0 rfl ?_
        refine GG.gm20 C rfl dX6_doAt_33 ?_
        refine GG.bipush C dX6_doAt_36 bp_114 ?_
        refine GG.iload_n C dX6_doAt_38 3 rfl ?_
        refine GG.iadd C dX6_doAt_39 ?_
        obtain ⟨v11, hv11, hf⟩ := obd_some hf
        refine GG.mi C rfl hv11 dX6_doAt_40 ?_
        refine GG.iload_n C dX6_doAt_41 2 rfl ?_
        obtain ⟨v12, hv12, hf⟩ := obd_some hf
        refine GG.c_X6_302 C rfl (gX6_hasIn hv12) ⟨Nat.le_of_ble_eq_true rfl, Nat.le_of_ble_eq_true rfl⟩ ⟨Nat.le_of_ble_eq_true rfl, Nat.le_of_ble_eq_true rfl⟩ (Nat.le_of_ble_eq_true rfl) dX6_doAt_42 ?_
        refine GG.if_eq C (tgt := 73) dX6_doAt_45 (by decide) (fun c13 => ?_) (fun c13 => ?_)
        · have hf := if_t hf c13
          have hf := Option.some.inj hf
          subst hf
          exact GG.vret C E dX6_doAt_73
        · have hf := if_f hf c13
          refine GG.aload_n C dX6_doAt_48 0 rfl ?_
          refine GG.gm20 C rfl dX6_doAt_49 ?_
          refine GG.bipush C dX6_doAt_52 bp_114 ?_
          refine GG.iload_n C dX6_doAt_54 3 rfl ?_
          refine GG.iadd C dX6_doAt_55 ?_
          refine GG.topi fun x14 hx14 => ?_
          have hf := ltb_s hx14 hf
          refine GG.dup2 C dX6_doAt_56 rfl rfl ?_
          obtain ⟨v15, hv15, hf⟩ := obd_some hf
          refine GG.mi C rfl hv15 dX6_doAt_57 ?_
          refine GG.iconst C dX6_doAt_58 ic_1 ?_
          refine GG.iload_n C dX6_doAt_59 2 rfl ?_
          refine GG.ishl C dX6_doAt_60 ?_
          refine GG.iconst C dX6_doAt_61 ic_m1 ?_
          refine GG.ixor C dX6_doAt_62 ?_
          refine GG.aload_n C dX6_doAt_63 0 rfl ?_
          refine GG.iload_n C dX6_doAt_64 2 rfl ?_
          obtain ⟨v16, hv16, hf⟩ := obd_some hf
          refine GG.c_X6_316 C rfl (gX6_hangers hv16) ⟨Nat.le_of_ble_eq_true rfl, Nat.le_of_ble_eq_true rfl⟩ ⟨Nat.le_of_ble_eq_true rfl, Nat.le_of_ble_eq_true rfl⟩ (Nat.le_of_ble_eq_true rfl) dX6_doAt_65 ?_
          refine GG.iconst C dX6_doAt_68 ic_m1 ?_
          refine GG.ixor C dX6_doAt_69 ?_
          refine GG.iand C dX6_doAt_70 ?_
          refine GG.iand C dX6_doAt_71 ?_
          obtain ⟨S17, hS17, hf⟩ := obd_some hf
          refine GG.mis C rfl hS17 dX6_doAt_72 ?_
          have hf := Option.some.inj hf
          subst hf
          exact GG.vret C E dX6_doAt_73
    · have hf := if_t hf c5
      refine GG.aload_n C dX6_doAt_16 0 rfl ?_
      refine GG.dup C dX6_doAt_17 rfl ?_
      refine GG.gm40 C rfl dX6_doAt_18 ?_
      refine GG.iconst C dX6_doAt_21 ic_1 ?_
      refine GG.iadd C dX6_doAt_22 ?_
      refine GG.pm40 C rfl dX6_doAt_23 ?_
      refine GG.topS fun S18 hS18 => ?_
      have hf := ltb_s hS18 hf
      have hf := Option.some.inj hf
      subst hf
      exact GG.vret C E dX6_doAt_26
theorem gX6_comes {K : gK} {M : XS}  {S : MS} {a1 : Int32} {a2 : Int32} {o : MS} (hf : fX6_comes S a1 a2 = some o) : gMet K yX6_comes cX6_comes 3 none rX6_comes [(.ref (kh K)), (.int a1), (.int a2)] M (some S) none M (some o) := by
  refine gMet.of pn_X6 (Nat.le_of_ble_eq_true rfl) fun X C E => ?_
  unfold fX6_comes at hf
  show GG K X 3 0 0 M (some S) 0 [(0, .ref (kh K)), (1, .int a1), (2, .int a2)] []
  refine GG.aload_n C dX6_comes_0 0 rfl ?_
  refine GG.gm20 C rfl dX6_comes_1 ?_
  refine GG.bipush C dX6_comes_4 bp_114 ?_
  refine GG.iload_n C dX6_comes_6 1 rfl ?_
  refine GG.iadd C dX6_comes_7 ?_
  refine GG.topi fun x1 hx1 => ?_
  have hf := ltb_s hx1 hf
  refine GG.dup2 C dX6_comes_8 rfl rfl ?_
  obtain ⟨v2, hv2, hf⟩ := obd_some hf
  refine GG.mi C rfl hv2 dX6_comes_9 ?_
  refine GG.iload_n C dX6_comes_10 2 rfl ?_
  refine GG.ior C dX6_comes_11 ?_
  obtain ⟨S3, hS3, hf⟩ := obd_some hf
  refine GG.mis C rfl hS3 dX6_comes_12 ?_
  refine GG.aload_n C dX6_comes_13 0 rfl ?_
  refine GG.dup C dX6_comes_14 rfl ?_
  refine GG.gm41 C rfl dX6_comes_15 ?_
  refine GG.iconst C dX6_comes_18 ic_1 ?_
  refine GG.iadd C dX6_comes_19 ?_
  refine GG.pm41 C rfl dX6_comes_20 ?_
  refine GG.topS fun S4 hS4 => ?_
  have hf := ltb_s hS4 hf
  have hf := Option.some.inj hf
  subst hf
  exact GG.vret C E dX6_comes_23
theorem gX6_load {K : gK} {M : XS}  {S : MS} {a1 : Int32} {a2 : Int32} {a3 : Int32} {o : MS} (hf : fX6_load S a1 a2 a3 = some o) : gMet K yX6_load cX6_load 4 none rX6_load [(.ref (kh K)), (.int a1), (.int a2), (.int a3)] M (some S) none M (some o) := by
  refine gMet.of pn_X6 (Nat.le_of_ble_eq_true rfl) fun X C E => ?_
  unfold fX6_load at hf
  show GG K X 4 0 0 M (some S) 0 [(0, .ref (kh K)), (1, .int a1), (2, .int a2), (3, .int a3)] []
  refine GG.aload_n C dX6_load_0 0 rfl ?_
  refine GG.gm29 C rfl dX6_load_1 ?_
  refine GG.aload_n C dX6_load_4 0 rfl ?_
  refine GG.gm35 C rfl dX6_load_5 ?_
  refine GG.iload_n C dX6_load_8 1 rfl ?_
  obtain ⟨S1, hS1, hf⟩ := obd_some hf
  refine GG.mis C rfl hS1 dX6_load_9 ?_
  refine GG.aload_n C dX6_load_10 0 rfl ?_
  refine GG.gm30 C rfl dX6_load_11 ?_
  refine GG.aload_n C dX6_load_14 0 rfl ?_
  refine GG.gm35 C rfl dX6_load_15 ?_
  refine GG.iload_n C dX6_load_18 2 rfl ?_
  obtain ⟨S2, hS2, hf⟩ := obd_some hf
  refine GG.mis C rfl hS2 dX6_load_19 ?_
  refine GG.aload_n C dX6_load_20 0 rfl ?_
  refine GG.gm31 C rfl dX6_load_21 ?_
  refine GG.aload_n C dX6_load_24 0 rfl ?_
  refine GG.gm35 C rfl dX6_load_25 ?_
  refine GG.iload_n C dX6_load_28 3 rfl ?_
  obtain ⟨S3, hS3, hf⟩ := obd_some hf
  refine GG.mis C rfl hS3 dX6_load_29 ?_
  refine GG.aload_n C dX6_load_30 0 rfl ?_
  refine GG.gm32 C rfl dX6_load_31 ?_
  refine GG.aload_n C dX6_load_34 0 rfl ?_
  refine GG.gm35 C rfl dX6_load_35 ?_
  refine GG.aload_n C dX6_load_38 0 rfl ?_
  refine GG.gm36 C rfl dX6_load_39 ?_
  obtain ⟨S4, hS4, hf⟩ := obd_some hf
  refine GG.mis C rfl hS4 dX6_load_42 ?_
  refine GG.aload_n C dX6_load_43 0 rfl ?_
  refine GG.dup C dX6_load_44 rfl ?_
  refine GG.gm35 C rfl dX6_load_45 ?_
  refine GG.iconst C dX6_load_48 ic_1 ?_
  refine GG.iadd C dX6_load_49 ?_
  refine GG.pm35 C rfl dX6_load_50 ?_
  refine GG.topS fun S5 hS5 => ?_
  have hf := ltb_s hS5 hf
  have hf := Option.some.inj hf
  subst hf
  exact GG.vret C E dX6_load_53
theorem gX6_doShip_143 {K : gK} {X : gX} {M : XS} (C : gC K X cX6_doShip 7 yX6_doShip none rX6_doShip)  {o : MS} (E : gE K X none M (some o) rX6_doShip.cells rX6_doShip.slots)   :
    ∀ (S : MS) (a1 : Int32) (a3 : Int32) (a4 : Int32) (a6 : Int32), fX6_doShip_143  S a1 a3 a4 a6 = some o → GG K X 7 0 0 M (some S) 143 [(0, .ref (kh K)), (1, .int a1), (3, .int a3), (4, .int a4), (6, .int a6)] [] := by
  intro S a1 a3 a4 a6 hf
  unfold fX6_doShip_143 at hf
  refine GG.aload_n C dX6_doShip_143 0 rfl ?_
  refine GG.gm20 C rfl dX6_doShip_144 ?_
  refine GG.iload_n C dX6_doShip_147 1 rfl ?_
  refine GG.iconst C dX6_doShip_148 ic_4 ?_
  refine GG.iadd C dX6_doShip_149 ?_
  obtain ⟨v22, hv22, hf⟩ := obd_some hf
  refine GG.mi C rfl hv22 dX6_doShip_150 ?_
  refine GG.iconst C dX6_doShip_151 ic_1 ?_
  refine GG.icmp_ne C (tgt := 171) dX6_doShip_152 (by decide) (fun c23 => ?_) (fun c23 => ?_)
  · have hf := if_f hf c23
    have hf := Option.some.inj hf
    subst hf
    exact GG.vret C E dX6_doShip_171
  · have hf := if_t hf c23
    refine GG.aload_n C dX6_doShip_155 0 rfl ?_
    refine GG.iload_n C dX6_doShip_156 2 rfl ?_
    refine GG.iload C dX6_doShip_157 4 rfl ?_
    refine GG.aload_n C dX6_doShip_159 0 rfl ?_
    refine GG.gm39 C rfl dX6_doShip_160 ?_
    refine GG.iload C dX6_doShip_163 3 rfl ?_
    refine GG.iadd C dX6_doShip_165 ?_
    refine GG.iconst C dX6_doShip_166 ic_1 ?_
    refine GG.iadd C dX6_doShip_167 ?_
    obtain ⟨p24, hp24, hf⟩ := obd_some hf
    refine GG.c_X6_446 C rfl (gX6_load hp24) ⟨Nat.le_of_ble_eq_true rfl, Nat.le_of_ble_eq_true rfl⟩ ⟨Nat.le_of_ble_eq_true rfl, Nat.le_of_ble_eq_true rfl⟩ (Nat.le_of_ble_eq_true rfl) dX6_doShip_168 ?_
    have hf := Option.some.inj hf
    subst hf
    exact GG.vret C E dX6_doShip_171
theorem gX6_doShip_38 {K : gK} {X : gX} {M : XS} (C : gC K X cX6_doShip 7 yX6_doShip none rX6_doShip)  {o : MS} (E : gE K X none M (some o) rX6_doShip.cells rX6_doShip.slots)   :
    ∀ (S : MS) (a1 : Int32) (a2 : Int32) (a3 : Int32) (a4 : Int32) (s0 : Int32), fX6_doShip_38  S a1 a2 a3 a4 s0 = some o → GG K X 7 0 0 M (some S) 38 [(0, .ref (kh K)), (1, .int a1), (2, .int a2), (3, .int a3), (4, .int a4)] [.int s0] := by
  intro S a1 a2 a3 a4 s0 hf
  unfold fX6_doShip_38 at hf
  refine GG.aload_n C dX6_doShip_38 0 rfl ?_
  refine GG.gm20 C rfl dX6_doShip_39 ?_
  refine GG.iload_n C dX6_doShip_42 1 rfl ?_
  refine GG.iconst C dX6_doShip_43 ic_4 ?_
  refine GG.iadd C dX6_doShip_44 ?_
  obtain ⟨v5, hv5, hf⟩ := obd_some hf
  refine GG.mi C rfl hv5 dX6_doShip_45 ?_
  refine GG.iadd C dX6_doShip_46 ?_
  refine GG.topi fun x6 hx6 => ?_
  have hf := ltb_s hx6 hf
  refine GG.istore C (lv' := [(5, .int x6), (0, .ref (kh K)), (1, .int a1), (2, .int a2), (3, .int a3), (4, .int a4)]) dX6_doShip_47 (by decide) rfl ?_
  refine GG.aload_n C dX6_doShip_49 1 rfl ?_
  refine GG.iload_n C dX6_doShip_50 3 rfl ?_
  obtain ⟨v7, hv7, hf⟩ := obd_some hf
  refine GG.c_X6_403 C rfl (gX6_isIsland hv7) ⟨Nat.le_of_ble_eq_true rfl, Nat.le_of_ble_eq_true rfl⟩ ⟨Nat.le_of_ble_eq_true rfl, Nat.le_of_ble_eq_true rfl⟩ (Nat.le_of_ble_eq_true rfl) dX6_doShip_51 ?_
  refine GG.if_eq C (tgt := 82) dX6_doShip_54 (by decide) (fun c8 => ?_) (fun c8 => ?_)
  · have hf := if_t hf c8
    refine GG.aload_n C dX6_doShip_82 1 rfl ?_
    refine GG.dup C dX6_doShip_83 rfl ?_
    refine GG.gm40 C rfl dX6_doShip_84 ?_
    refine GG.iconst C dX6_doShip_87 ic_1 ?_
    refine GG.iadd C dX6_doShip_88 ?_
    refine GG.pm40 C rfl dX6_doShip_89 ?_
    refine GG.topS fun S9 hS9 => ?_
    have hf := ltb_s hS9 hf
    have hf := Option.some.inj hf
    subst hf
    exact GG.vret C E dX6_doShip_92
  · have hf := if_f hf c8
    refine GG.aload_n C dX6_doShip_57 1 rfl ?_
    refine GG.iload_n C dX6_doShip_58 4 rfl ?_
    obtain ⟨v10, hv10, hf⟩ := obd_some hf
    refine GG.c_X6_403 C rfl (gX6_isIsland hv10) ⟨Nat.le_of_ble_eq_true rfl, Nat.le_of_ble_eq_true rfl⟩ ⟨Nat.le_of_ble_eq_true rfl, Nat.le_of_ble_eq_true rfl⟩ (Nat.le_of_ble_eq_true rfl) dX6_doShip_59 ?_
    refine GG.if_eq C (tgt := 82) dX6_doShip_62 (by decide) (fun c11 => ?_) (fun c11 => ?_)
    · have hf := if_t hf c11
      refine GG.aload_n C dX6_doShip_82 1 rfl ?_
      refine GG.dup C dX6_doShip_83 rfl ?_
      refine GG.gm40 C rfl dX6_doShip_84 ?_
      refine GG.iconst C dX6_doShip_87 ic_1 ?_
      refine GG.iadd C dX6_doShip_88 ?_
      refine GG.pm40 C rfl dX6_doShip_89 ?_
      refine GG.topS fun S12 hS12 => ?_
      have hf := ltb_s hS12 hf
      have hf := Option.some.inj hf
      subst hf
      exact GG.vret C E dX6_doShip_92
    · have hf := if_f hf c11
      refine GG.iload_n C dX6_doShip_65 3 rfl ?_
      refine GG.iload_n C dX6_doShip_66 4 rfl ?_
      refine GG.icmp_eq C (tgt := 82) dX6_doShip_67 (by decide) (fun c13 => ?_) (fun c13 => ?_)
      · have hf := if_t hf c13
        refine GG.aload_n C dX6_doShip_82 1 rfl ?_
        refine GG.dup C dX6_doShip_83 rfl ?_
        refine GG.gm40 C rfl dX6_doShip_84 ?_
        refine GG.iconst C dX6_doShip_87 ic_1 ?_
        refine GG.iadd C dX6_doShip_88 ?_
        refine GG.pm40 C rfl dX6_doShip_89 ?_
        refine GG.topS fun S14 hS14 => ?_
        have hf := ltb_s hS14 hf
        have hf := Option.some.inj hf
        subst hf
        exact GG.vret C E dX6_doShip_92
      · have hf := if_f hf c13
        refine GG.aload_n C dX6_doShip_70 1 rfl ?_
        refine GG.gm35 C rfl dX6_doShip_71 ?_
        refine GG.iload C dX6_doShip_74 0 rfl ?_
        refine GG.iadd C dX6_doShip_76 ?_
        refine GG.bipush C dX6_doShip_77 bp_20 ?_
        refine GG.icmp_le C (tgt := 93) dX6_doShip_79 (by decide) (fun c15 => ?_) (fun c15 => ?_)
        · have hf := if_t hf c15
          refine GG.aload_n C dX6_doShip_93 1 rfl ?_
          refine GG.dup C dX6_doShip_94 rfl ?_
          refine GG.gm36 C rfl dX6_doShip_95 ?_
          refine GG.iconst C dX6_doShip_98 ic_1 ?_
          refine GG.iadd C dX6_doShip_99 ?_
          refine GG.pm36 C rfl dX6_doShip_100 ?_
          refine GG.topS fun S16 hS16 => ?_
          have hf := ltb_s hS16 hf
          refine GG.aload_n C dX6_doShip_103 1 rfl ?_
          refine GG.gm20 C rfl dX6_doShip_104 ?_
          refine GG.bipush C dX6_doShip_107 bp_114 ?_
          refine GG.iload_n C dX6_doShip_109 3 rfl ?_
          refine GG.iadd C dX6_doShip_110 ?_
          obtain ⟨v17, hv17, hf⟩ := obd_some hf
          refine GG.mi C rfl hv17 dX6_doShip_111 ?_
          refine GG.istore C (lv' := [(6, .int v17), (5, .int x6), (0, .ref (kh K)), (1, .int a1), (2, .int a2), (3, .int a3), (4, .int a4)]) dX6_doShip_112 (by decide) rfl ?_
          refine GG.iload C dX6_doShip_114 6 rfl ?_
          refine GG.if_ne C (tgt := 129) dX6_doShip_116 (by decide) (fun c18 => ?_) (fun c18 => ?_)
          · have hf := if_f hf c18
            refine GG.aload_n C dX6_doShip_129 2 rfl ?_
            refine GG.iload_n C dX6_doShip_130 5 rfl ?_
            refine GG.iload C dX6_doShip_131 0 rfl ?_
            refine GG.aload_n C dX6_doShip_133 2 rfl ?_
            refine GG.gm39 C rfl dX6_doShip_134 ?_
            refine GG.iload C dX6_doShip_137 6 rfl ?_
            refine GG.iadd C dX6_doShip_139 ?_
            obtain ⟨p19, hp19, hf⟩ := obd_some hf
            refine GG.c_X6_446 C rfl (gX6_load hp19) ⟨Nat.le_of_ble_eq_true rfl, Nat.le_of_ble_eq_true rfl⟩ ⟨Nat.le_of_ble_eq_true rfl, Nat.le_of_ble_eq_true rfl⟩ (Nat.le_of_ble_eq_true rfl) dX6_doShip_140 ?_
            refine GG.sub [2, 3, 5, 6, 0] rfl ?_
            exact gX6_doShip_143 C E  _ _ _ _ _ hf
          · have hf := if_t hf c18
            refine GG.aload_n C dX6_doShip_119 2 rfl ?_
            refine GG.iload_n C dX6_doShip_120 5 rfl ?_
            refine GG.iload C dX6_doShip_121 0 rfl ?_
            obtain ⟨p20, hp20, hf⟩ := obd_some hf
            refine GG.c_X6_440 C rfl (gX6_comes hp20) ⟨Nat.le_of_ble_eq_true rfl, Nat.le_of_ble_eq_true rfl⟩ ⟨Nat.le_of_ble_eq_true rfl, Nat.le_of_ble_eq_true rfl⟩ (Nat.le_of_ble_eq_true rfl) dX6_doShip_123 ?_
            refine GG.goto C (tgt := 143) dX6_doShip_126 (by decide) ?_
            refine GG.sub [2, 3, 5, 6, 0] rfl ?_
            exact gX6_doShip_143 C E  _ _ _ _ _ hf
        · have hf := if_f hf c15
          refine GG.aload_n C dX6_doShip_82 1 rfl ?_
          refine GG.dup C dX6_doShip_83 rfl ?_
          refine GG.gm40 C rfl dX6_doShip_84 ?_
          refine GG.iconst C dX6_doShip_87 ic_1 ?_
          refine GG.iadd C dX6_doShip_88 ?_
          refine GG.pm40 C rfl dX6_doShip_89 ?_
          refine GG.topS fun S21 hS21 => ?_
          have hf := ltb_s hS21 hf
          have hf := Option.some.inj hf
          subst hf
          exact GG.vret C E dX6_doShip_92
theorem gX6_doShip {K : gK} {M : XS}  {S : MS} {a1 : Int32} {o : MS} (hf : fX6_doShip S a1 = some o) : gMet K yX6_doShip cX6_doShip 7 none rX6_doShip [(.ref (kh K)), (.int a1)] M (some S) none M (some o) := by
  refine gMet.of pn_X6 (Nat.le_of_ble_eq_true rfl) fun X C E => ?_
  unfold fX6_doShip at hf
  show GG K X 7 0 0 M (some S) 0 [(0, .ref (kh K)), (1, .int a1)] []
  refine GG.aload_n C dX6_doShip_0 0 rfl ?_
  refine GG.gm20 C rfl dX6_doShip_1 ?_
  refine GG.iload_n C dX6_doShip_4 1 rfl ?_
  refine GG.iconst C dX6_doShip_5 ic_1 ?_
  refine GG.iadd C dX6_doShip_6 ?_
  obtain ⟨v1, hv1, hf⟩ := obd_some hf
  refine GG.mi C rfl hv1 dX6_doShip_7 ?_
  refine GG.istore_n C (lv' := [(2, .int v1), (0, .ref (kh K)), (1, .int a1)]) dX6_doShip_8 (by decide) rfl ?_
  refine GG.aload_n C dX6_doShip_9 1 rfl ?_
  refine GG.gm20 C rfl dX6_doShip_10 ?_
  refine GG.iload_n C dX6_doShip_13 2 rfl ?_
  refine GG.iconst C dX6_doShip_14 ic_2 ?_
  refine GG.iadd C dX6_doShip_15 ?_
  obtain ⟨v2, hv2, hf⟩ := obd_some hf
  refine GG.mi C rfl hv2 dX6_doShip_16 ?_
  refine GG.istore_n C (lv' := [(3, .int v2), (2, .int v1), (0, .ref (kh K)), (1, .int a1)]) dX6_doShip_17 (by decide) rfl ?_
  refine GG.aload_n C dX6_doShip_18 2 rfl ?_
  refine GG.gm20 C rfl dX6_doShip_19 ?_
  refine GG.iload_n C dX6_doShip_22 3 rfl ?_
  refine GG.iconst C dX6_doShip_23 ic_3 ?_
  refine GG.iadd C dX6_doShip_24 ?_
  obtain ⟨v3, hv3, hf⟩ := obd_some hf
  refine GG.mi C rfl hv3 dX6_doShip_25 ?_
  refine GG.istore C (lv' := [(4, .int v3), (3, .int v2), (2, .int v1), (0, .ref (kh K)), (1, .int a1)]) dX6_doShip_26 (by decide) rfl ?_
  refine GG.iload C dX6_doShip_28 0 rfl ?_
  refine GG.if_le C (tgt := 37) dX6_doShip_30 (by decide) (fun c4 => ?_) (fun c4 => ?_)
  · have hf := if_t hf c4
    refine GG.iconst C dX6_doShip_37 ic_0 ?_
    refine GG.sub [3, 4, 2, 1, 0] rfl ?_
    exact gX6_doShip_38 C E  _ _ _ _ _ _ hf
  · have hf := if_f hf c4
    refine GG.iconst C dX6_doShip_33 ic_1 ?_
    refine GG.goto C (tgt := 38) dX6_doShip_34 (by decide) ?_
    refine GG.sub [3, 4, 2, 1, 0] rfl ?_
    exact gX6_doShip_38 C E  _ _ _ _ _ _ hf
theorem gX6_takeAway_12 {K : gK} {X : gX} {M : XS} (C : gC K X cX6_takeAway 3 yX6_takeAway none rX6_takeAway)  {o : MS} (E : gE K X none M (some o) rX6_takeAway.cells rX6_takeAway.slots)   :
    ∀ (n : Nat) (S : MS) (a2 : Int32), fX6_takeAway_12  n S a2 = some o → GG K X 3 0 0 M (some S) 12 [(0, .ref (kh K)), (2, .int a2)] [] := by
  intro n
  induction n with
  | zero => intro S a2 hf; cases hf
  | succ n ih =>
    intro S a2 hf
    rw [fX6_takeAway_12] at hf
    refine GG.iload_n C dX6_takeAway_12 1 rfl ?_
    refine GG.aload_n C dX6_takeAway_13 0 rfl ?_
    refine GG.gm35 C rfl dX6_takeAway_14 ?_
    refine GG.icmp_ge C (tgt := 82) dX6_takeAway_17 (by decide) (fun c2 => ?_) (fun c2 => ?_)
    · have hf := if_t hf c2
      have hf := Option.some.inj hf
      subst hf
      exact GG.vret C E dX6_takeAway_82
    · have hf := if_f hf c2
      refine GG.aload_n C dX6_takeAway_20 0 rfl ?_
      refine GG.gm29 C rfl dX6_takeAway_21 ?_
      refine GG.iload_n C dX6_takeAway_24 1 rfl ?_
      refine GG.aload_n C dX6_takeAway_25 0 rfl ?_
      refine GG.gm29 C rfl dX6_takeAway_26 ?_
      refine GG.iload_n C dX6_takeAway_29 1 rfl ?_
      refine GG.iconst C dX6_takeAway_30 ic_1 ?_
      refine GG.iadd C dX6_takeAway_31 ?_
      obtain ⟨v3, hv3, hf⟩ := obd_some hf
      refine GG.mi C rfl hv3 dX6_takeAway_32 ?_
      obtain ⟨S4, hS4, hf⟩ := obd_some hf
      refine GG.mis C rfl hS4 dX6_takeAway_33 ?_
      refine GG.aload_n C dX6_takeAway_34 0 rfl ?_
      refine GG.gm30 C rfl dX6_takeAway_35 ?_
      refine GG.iload_n C dX6_takeAway_38 1 rfl ?_
      refine GG.aload_n C dX6_takeAway_39 0 rfl ?_
      refine GG.gm30 C rfl dX6_takeAway_40 ?_
      refine GG.iload_n C dX6_takeAway_43 1 rfl ?_
      refine GG.iconst C dX6_takeAway_44 ic_1 ?_
      refine GG.iadd C dX6_takeAway_45 ?_
      obtain ⟨v5, hv5, hf⟩ := obd_some hf
      refine GG.mi C rfl hv5 dX6_takeAway_46 ?_
      obtain ⟨S6, hS6, hf⟩ := obd_some hf
      refine GG.mis C rfl hS6 dX6_takeAway_47 ?_
      refine GG.aload_n C dX6_takeAway_48 0 rfl ?_
      refine GG.gm31 C rfl dX6_takeAway_49 ?_
      refine GG.iload_n C dX6_takeAway_52 1 rfl ?_
      refine GG.aload_n C dX6_takeAway_53 0 rfl ?_
      refine GG.gm31 C rfl dX6_takeAway_54 ?_
      refine GG.iload_n C dX6_takeAway_57 1 rfl ?_
      refine GG.iconst C dX6_takeAway_58 ic_1 ?_
      refine GG.iadd C dX6_takeAway_59 ?_
      obtain ⟨v7, hv7, hf⟩ := obd_some hf
      refine GG.mi C rfl hv7 dX6_takeAway_60 ?_
      obtain ⟨S8, hS8, hf⟩ := obd_some hf
      refine GG.mis C rfl hS8 dX6_takeAway_61 ?_
      refine GG.aload_n C dX6_takeAway_62 0 rfl ?_
      refine GG.gm32 C rfl dX6_takeAway_63 ?_
      refine GG.iload_n C dX6_takeAway_66 1 rfl ?_
      refine GG.aload_n C dX6_takeAway_67 0 rfl ?_
      refine GG.gm32 C rfl dX6_takeAway_68 ?_
      refine GG.iload_n C dX6_takeAway_71 1 rfl ?_
      refine GG.iconst C dX6_takeAway_72 ic_1 ?_
      refine GG.iadd C dX6_takeAway_73 ?_
      obtain ⟨v9, hv9, hf⟩ := obd_some hf
      refine GG.mi C rfl hv9 dX6_takeAway_74 ?_
      obtain ⟨S10, hS10, hf⟩ := obd_some hf
      refine GG.mis C rfl hS10 dX6_takeAway_75 ?_
      refine GG.iinc C (v := (a2 + (nI 1))) (lv' := [(2, .int (a2 + (nI 1))), (0, .ref (kh K))]) dX6_takeAway_76 1 rfl (congrArg (a2 + ·) ic_1) (by decide) rfl ?_
      refine GG.goto C (tgt := 12) dX6_takeAway_79 (by decide) ?_
      refine GG.sub [1, 0] rfl ?_
      exact ih _ _ hf
theorem gX6_takeAway {K : gK} {M : XS}  {S : MS} {a1 : Int32} {o : MS} (hf : fX6_takeAway S a1 = some o) : gMet K yX6_takeAway cX6_takeAway 3 none rX6_takeAway [(.ref (kh K)), (.int a1)] M (some S) none M (some o) := by
  refine gMet.of pn_X6 (Nat.le_of_ble_eq_true rfl) fun X C E => ?_
  unfold fX6_takeAway at hf
  show GG K X 3 0 0 M (some S) 0 [(0, .ref (kh K)), (1, .int a1)] []
  refine GG.aload_n C dX6_takeAway_0 0 rfl ?_
  refine GG.dup C dX6_takeAway_1 rfl ?_
  refine GG.gm35 C rfl dX6_takeAway_2 ?_
  refine GG.iconst C dX6_takeAway_5 ic_1 ?_
  refine GG.isub C dX6_takeAway_6 ?_
  refine GG.pm35 C rfl dX6_takeAway_7 ?_
  refine GG.topS fun S1 hS1 => ?_
  have hf := ltb_s hS1 hf
  refine GG.iload_n C dX6_takeAway_10 1 rfl ?_
  refine GG.istore_n C (lv' := [(2, .int a1), (0, .ref (kh K)), (1, .int a1)]) dX6_takeAway_11 (by decide) rfl ?_
  refine GG.sub [1, 0] rfl ?_
  exact gX6_takeAway_12 C E  FU _ _ hf
theorem gX6_doWait_19 {K : gK} {X : gX} {M : XS} (C : gC K X cX6_doWait 4 yX6_doWait none rX6_doWait)  {o : MS} (E : gE K X none M (some o) rX6_doWait.cells rX6_doWait.slots) {k2 : MS → Int32 → Int32 → Option MS} (hk2 : ∀ (S : MS) (a1 : Int32) (a2 : Int32), k2 S a1 a2 = some o → GG K X 4 0 0 M (some S) 2 [(0, .ref (kh K)), (1, .int a1), (2, .int a2)] []) :
    ∀ (n : Nat) (S : MS) (a1 : Int32) (a2 : Int32) (a3 : Int32), fX6_doWait_19 k2 n S a1 a2 a3 = some o → GG K X 4 0 0 M (some S) 19 [(0, .ref (kh K)), (1, .int a1), (2, .int a2), (3, .int a3)] [] := by
  intro n
  induction n with
  | zero => intro S a1 a2 a3 hf; cases hf
  | succ n ih =>
    intro S a1 a2 a3 hf
    rw [fX6_doWait_19] at hf
    refine GG.iload_n C dX6_doWait_19 3 rfl ?_
    refine GG.aload_n C dX6_doWait_20 0 rfl ?_
    refine GG.gm35 C rfl dX6_doWait_21 ?_
    refine GG.icmp_ge C (tgt := 70) dX6_doWait_24 (by decide) (fun c3 => ?_) (fun c3 => ?_)
    · have hf := if_t hf c3
      refine GG.iinc C (v := (a2 + (nI 1))) (lv' := [(2, .int (a2 + (nI 1))), (0, .ref (kh K)), (1, .int a1), (3, .int a3)]) dX6_doWait_70 2 rfl (congrArg (a2 + ·) ic_1) (by decide) rfl ?_
      refine GG.goto C (tgt := 2) dX6_doWait_73 (by decide) ?_
      refine GG.sub [1, 2, 0] rfl ?_
      exact hk2 _ _ _ hf
    · have hf := if_f hf c3
      refine GG.aload_n C dX6_doWait_27 0 rfl ?_
      refine GG.gm31 C rfl dX6_doWait_28 ?_
      refine GG.iload_n C dX6_doWait_31 3 rfl ?_
      obtain ⟨v4, hv4, hf⟩ := obd_some hf
      refine GG.mi C rfl hv4 dX6_doWait_32 ?_
      refine GG.aload_n C dX6_doWait_33 0 rfl ?_
      refine GG.gm39 C rfl dX6_doWait_34 ?_
      refine GG.icmp_le C (tgt := 46) dX6_doWait_37 (by decide) (fun c5 => ?_) (fun c5 => ?_)
      · have hf := if_t hf c5
        refine GG.aload_n C dX6_doWait_46 0 rfl ?_
        refine GG.aload_n C dX6_doWait_47 0 rfl ?_
        refine GG.gm29 C rfl dX6_doWait_48 ?_
        refine GG.iload_n C dX6_doWait_51 3 rfl ?_
        obtain ⟨v6, hv6, hf⟩ := obd_some hf
        refine GG.mi C rfl hv6 dX6_doWait_52 ?_
        refine GG.aload_n C dX6_doWait_53 0 rfl ?_
        refine GG.gm30 C rfl dX6_doWait_54 ?_
        refine GG.iload_n C dX6_doWait_57 3 rfl ?_
        obtain ⟨v7, hv7, hf⟩ := obd_some hf
        refine GG.mi C rfl hv7 dX6_doWait_58 ?_
        obtain ⟨p8, hp8, hf⟩ := obd_some hf
        refine GG.c_X6_440 C rfl (gX6_comes hp8) ⟨Nat.le_of_ble_eq_true rfl, Nat.le_of_ble_eq_true rfl⟩ ⟨Nat.le_of_ble_eq_true rfl, Nat.le_of_ble_eq_true rfl⟩ (Nat.le_of_ble_eq_true rfl) dX6_doWait_59 ?_
        refine GG.aload_n C dX6_doWait_62 0 rfl ?_
        refine GG.iload_n C dX6_doWait_63 3 rfl ?_
        obtain ⟨p9, hp9, hf⟩ := obd_some hf
        refine GG.c_X6_455 C rfl (gX6_takeAway hp9) ⟨Nat.le_of_ble_eq_true rfl, Nat.le_of_ble_eq_true rfl⟩ ⟨Nat.le_of_ble_eq_true rfl, Nat.le_of_ble_eq_true rfl⟩ (Nat.le_of_ble_eq_true rfl) dX6_doWait_64 ?_
        refine GG.goto C (tgt := 19) dX6_doWait_67 (by decide) ?_
        refine GG.sub [0, 1, 2, 3] rfl ?_
        exact ih _ _ _ _ hf
      · have hf := if_f hf c5
        refine GG.iinc C (v := (a3 + (nI 1))) (lv' := [(3, .int (a3 + (nI 1))), (0, .ref (kh K)), (1, .int a1), (2, .int a2)]) dX6_doWait_40 3 rfl (congrArg (a3 + ·) ic_1) (by decide) rfl ?_
        refine GG.goto C (tgt := 19) dX6_doWait_43 (by decide) ?_
        refine GG.sub [1, 2, 3, 0] rfl ?_
        exact ih _ _ _ _ hf
theorem gX6_doWait_2 {K : gK} {X : gX} {M : XS} (C : gC K X cX6_doWait 4 yX6_doWait none rX6_doWait)  {o : MS} (E : gE K X none M (some o) rX6_doWait.cells rX6_doWait.slots)   :
    ∀ (n : Nat) (S : MS) (a1 : Int32) (a2 : Int32), fX6_doWait_2  n S a1 a2 = some o → GG K X 4 0 0 M (some S) 2 [(0, .ref (kh K)), (1, .int a1), (2, .int a2)] [] := by
  intro n
  induction n with
  | zero => intro S a1 a2 hf; cases hf
  | succ n ih =>
    intro S a1 a2 hf
    rw [fX6_doWait_2] at hf
    refine GG.iload_n C dX6_doWait_2 2 rfl ?_
    refine GG.iload_n C dX6_doWait_3 1 rfl ?_
    refine GG.icmp_ge C (tgt := 76) dX6_doWait_4 (by decide) (fun c1 => ?_) (fun c1 => ?_)
    · have hf := if_t hf c1
      have hf := Option.some.inj hf
      subst hf
      exact GG.vret C E dX6_doWait_76
    · have hf := if_f hf c1
      refine GG.aload_n C dX6_doWait_7 0 rfl ?_
      refine GG.dup C dX6_doWait_8 rfl ?_
      refine GG.gm39 C rfl dX6_doWait_9 ?_
      refine GG.iconst C dX6_doWait_12 ic_1 ?_
      refine GG.iadd C dX6_doWait_13 ?_
      refine GG.pm39 C rfl dX6_doWait_14 ?_
      refine GG.topS fun S2 hS2 => ?_
      have hf := ltb_s hS2 hf
      refine GG.iconst C dX6_doWait_17 ic_0 ?_
      refine GG.istore_n C (lv' := [(3, .int (nI 0)), (0, .ref (kh K)), (1, .int a1), (2, .int a2)]) dX6_doWait_18 (by decide) rfl ?_
      refine GG.sub [1, 2, 3, 0] rfl ?_
      exact gX6_doWait_19 C E (hk2 := ih) FU _ _ _ _ hf
theorem gX6_doWait {K : gK} {M : XS}  {S : MS} {a1 : Int32} {o : MS} (hf : fX6_doWait S a1 = some o) : gMet K yX6_doWait cX6_doWait 4 none rX6_doWait [(.ref (kh K)), (.int a1)] M (some S) none M (some o) := by
  refine gMet.of pn_X6 (Nat.le_of_ble_eq_true rfl) fun X C E => ?_
  unfold fX6_doWait at hf
  show GG K X 4 0 0 M (some S) 0 [(0, .ref (kh K)), (1, .int a1)] []
  refine GG.iconst C dX6_doWait_0 ic_0 ?_
  refine GG.istore_n C (lv' := [(2, .int (nI 0)), (0, .ref (kh K)), (1, .int a1)]) dX6_doWait_1 (by decide) rfl ?_
  refine GG.sub [1, 2, 0] rfl ?_
  exact gX6_doWait_2 C E  FU _ _ _ hf
theorem gX6_draw {K : gK} {M : XS}  {S : MS} {o : (Int32 × MS)} (hf : fX6_draw S = some o) : gMet K yX6_draw cX6_draw 1 (some Jvm.ClassFile.FieldType.int) rX6_draw [(.ref (kh K))] M (some S) (some (.int o.1)) M (some o.2) := by
  refine gMet.of pn_X6 (Nat.le_of_ble_eq_true rfl) fun X C E => ?_
  unfold fX6_draw at hf
  show GG K X 1 0 0 M (some S) 0 [(0, .ref (kh K))] []
  refine GG.aload_n C dX6_draw_0 0 rfl ?_
  refine GG.aload_n C dX6_draw_1 0 rfl ?_
  refine GG.gm37 C rfl dX6_draw_2 ?_
  refine GG.sipush C dX6_draw_5 sp_2749 ?_
  refine GG.imul C dX6_draw_8 ?_
  refine GG.sipush C dX6_draw_9 sp_9733 ?_
  refine GG.iadd C dX6_draw_12 ?_
  refine GG.ldc C (v := (nI 65536)) q1456 dX6_draw_13 ?_
  refine GG.irem C dX6_draw_15 (by decide) ?_
  refine GG.pm37 C rfl dX6_draw_16 ?_
  refine GG.topS fun S1 hS1 => ?_
  have hf := ltb_s hS1 hf
  refine GG.aload_n C dX6_draw_19 0 rfl ?_
  refine GG.gm37 C rfl dX6_draw_20 ?_
  refine GG.bipush C dX6_draw_23 bp_8 ?_
  refine GG.idiv C dX6_draw_25 (by decide) ?_
  refine GG.bipush C dX6_draw_26 bp_16 ?_
  refine GG.irem C dX6_draw_28 (by decide) ?_
  have hf := Option.some.inj hf
  subst hf
  exact GG.iret C E dX6_draw_29
theorem gX6_doDraw_28 {K : gK} {X : gX} {M : XS} (C : gC K X cX6_doDraw 3 yX6_doDraw none rX6_doDraw)  {o : MS} (E : gE K X none M (some o) rX6_doDraw.cells rX6_doDraw.slots)   :
    ∀ (n : Nat) (S : MS) (a2 : Int32), fX6_doDraw_28  n S a2 = some o → GG K X 3 0 0 M (some S) 28 [(0, .ref (kh K)), (2, .int a2)] [] := by
  intro n
  induction n with
  | zero => intro S a2 hf; cases hf
  | succ n ih =>
    intro S a2 hf
    rw [fX6_doDraw_28] at hf
    refine GG.aload_n C dX6_doDraw_28 0 rfl ?_
    refine GG.gm35 C rfl dX6_doDraw_29 ?_
    refine GG.if_le C (tgt := 73) dX6_doDraw_32 (by decide) (fun c5 => ?_) (fun c5 => ?_)
    · have hf := if_t hf c5
      have hf := Option.some.inj hf
      subst hf
      exact GG.vret C E dX6_doDraw_73
    · have hf := if_f hf c5
      refine GG.aload_n C dX6_doDraw_35 0 rfl ?_
      refine GG.gm32 C rfl dX6_doDraw_36 ?_
      refine GG.aload_n C dX6_doDraw_39 0 rfl ?_
      refine GG.gm35 C rfl dX6_doDraw_40 ?_
      refine GG.iconst C dX6_doDraw_43 ic_1 ?_
      refine GG.isub C dX6_doDraw_44 ?_
      obtain ⟨v6, hv6, hf⟩ := obd_some hf
      refine GG.mi C rfl hv6 dX6_doDraw_45 ?_
      refine GG.iload_n C dX6_doDraw_46 1 rfl ?_
      refine GG.icmp_ne C (tgt := 73) dX6_doDraw_47 (by decide) (fun c7 => ?_) (fun c7 => ?_)
      · have hf := if_f hf c7
        have hf := Option.some.inj hf
        subst hf
        exact GG.vret C E dX6_doDraw_73
      · have hf := if_t hf c7
        refine GG.aload_n C dX6_doDraw_50 0 rfl ?_
        refine GG.dup C dX6_doDraw_51 rfl ?_
        refine GG.gm35 C rfl dX6_doDraw_52 ?_
        refine GG.iconst C dX6_doDraw_55 ic_1 ?_
        refine GG.isub C dX6_doDraw_56 ?_
        refine GG.pm35 C rfl dX6_doDraw_57 ?_
        refine GG.topS fun S8 hS8 => ?_
        have hf := ltb_s hS8 hf
        refine GG.aload_n C dX6_doDraw_60 0 rfl ?_
        refine GG.dup C dX6_doDraw_61 rfl ?_
        refine GG.gm42 C rfl dX6_doDraw_62 ?_
        refine GG.iconst C dX6_doDraw_65 ic_1 ?_
        refine GG.iadd C dX6_doDraw_66 ?_
        refine GG.pm42 C rfl dX6_doDraw_67 ?_
        refine GG.topS fun S9 hS9 => ?_
        have hf := ltb_s hS9 hf
        refine GG.goto C (tgt := 28) dX6_doDraw_70 (by decide) ?_
        refine GG.sub [0, 1] rfl ?_
        exact ih _ _ hf
theorem gX6_doDraw {K : gK} {M : XS}  {S : MS} {a1 : Int32} {o : MS} (hf : fX6_doDraw S a1 = some o) : gMet K yX6_doDraw cX6_doDraw 3 none rX6_doDraw [(.ref (kh K)), (.int a1)] M (some S) none M (some o) := by
  refine gMet.of pn_X6 (Nat.le_of_ble_eq_true rfl) fun X C E => ?_
  unfold fX6_doDraw at hf
  show GG K X 3 0 0 M (some S) 0 [(0, .ref (kh K)), (1, .int a1)] []
  refine GG.aload_n C dX6_doDraw_0 0 rfl ?_
  obtain ⟨p1, hp1, hf⟩ := obd_some hf
  refine GG.c_X6_449 C rfl (gX6_draw hp1) ⟨Nat.le_of_ble_eq_true rfl, Nat.le_of_ble_eq_true rfl⟩ ⟨Nat.le_of_ble_eq_true rfl, Nat.le_of_ble_eq_true rfl⟩ (Nat.le_of_ble_eq_true rfl) dX6_doDraw_1 ?_
  refine GG.iload_n C dX6_doDraw_4 1 rfl ?_
  refine GG.icmp_ge C (tgt := 15) dX6_doDraw_5 (by decide) (fun c2 => ?_) (fun c2 => ?_)
  · have hf := if_t hf c2
    have hf := Option.some.inj hf
    subst hf
    exact GG.vret C E dX6_doDraw_15
  · have hf := if_f hf c2
    refine GG.aload_n C dX6_doDraw_8 0 rfl ?_
    refine GG.gm35 C rfl dX6_doDraw_9 ?_
    refine GG.if_ne C (tgt := 16) dX6_doDraw_12 (by decide) (fun c3 => ?_) (fun c3 => ?_)
    · have hf := if_f hf c3
      refine GG.aload_n C dX6_doDraw_16 0 rfl ?_
      refine GG.gm32 C rfl dX6_doDraw_17 ?_
      refine GG.aload_n C dX6_doDraw_20 0 rfl ?_
      refine GG.gm35 C rfl dX6_doDraw_21 ?_
      refine GG.iconst C dX6_doDraw_24 ic_1 ?_
      refine GG.isub C dX6_doDraw_25 ?_
      obtain ⟨v4, hv4, hf⟩ := obd_some hf
      refine GG.mi C rfl hv4 dX6_doDraw_26 ?_
      refine GG.istore_n C (lv' := [(2, .int v4), (0, .ref (kh K)), (1, .int a1)]) dX6_doDraw_27 (by decide) rfl ?_
      refine GG.sub [1, 0] rfl ?_
      exact gX6_doDraw_28 C E  FU _ _ hf
    · have hf := if_t hf c3
      have hf := Option.some.inj hf
      subst hf
      exact GG.vret C E dX6_doDraw_15
theorem gX6_isSo {K : gK} {M : XS}  {S : MS} {a1 : Int32} {o : Int32} (hf : fX6_isSo S a1 = some o) : gMet K yX6_isSo cX6_isSo 3 (some Jvm.ClassFile.FieldType.boolean) rX6_isSo [(.ref (kh K)), (.int a1)] M (some S) (some (.int o)) M (some S) := by
  refine gMet.of pn_X6 (Nat.le_of_ble_eq_true rfl) fun X C E => ?_
  unfold fX6_isSo at hf
  show GG K X 3 0 0 M (some S) 0 [(0, .ref (kh K)), (1, .int a1)] []
  refine GG.aload_n C dX6_isSo_0 0 rfl ?_
  refine GG.gm20 C rfl dX6_isSo_1 ?_
  refine GG.iload_n C dX6_isSo_4 1 rfl ?_
  refine GG.iconst C dX6_isSo_5 ic_5 ?_
  refine GG.iadd C dX6_isSo_6 ?_
  obtain ⟨v1, hv1, hf⟩ := obd_some hf
  refine GG.mi C rfl hv1 dX6_isSo_7 ?_
  refine GG.istore_n C (lv' := [(2, .int v1), (0, .ref (kh K)), (1, .int a1)]) dX6_isSo_8 (by decide) rfl ?_
  refine GG.iload_n C dX6_isSo_9 0 rfl ?_
  refine GG.iconst C dX6_isSo_10 ic_2 ?_
  refine GG.icmp_ne C (tgt := 35) dX6_isSo_11 (by decide) (fun c2 => ?_) (fun c2 => ?_)
  · have hf := if_f hf c2
    refine GG.aload_n C dX6_isSo_35 1 rfl ?_
    refine GG.aload_n C dX6_isSo_36 1 rfl ?_
    refine GG.gm20 C rfl dX6_isSo_37 ?_
    refine GG.iload_n C dX6_isSo_40 2 rfl ?_
    refine GG.iconst C dX6_isSo_41 ic_1 ?_
    refine GG.iadd C dX6_isSo_42 ?_
    obtain ⟨v3, hv3, hf⟩ := obd_some hf
    refine GG.mi C rfl hv3 dX6_isSo_43 ?_
    obtain ⟨v4, hv4, hf⟩ := obd_some hf
    refine GG.c_X6_403 C rfl (gX6_isIsland hv4) ⟨Nat.le_of_ble_eq_true rfl, Nat.le_of_ble_eq_true rfl⟩ ⟨Nat.le_of_ble_eq_true rfl, Nat.le_of_ble_eq_true rfl⟩ (Nat.le_of_ble_eq_true rfl) dX6_isSo_44 ?_
    refine GG.if_ne C (tgt := 52) dX6_isSo_47 (by decide) (fun c5 => ?_) (fun c5 => ?_)
    · have hf := if_f hf c5
      refine GG.iload_n C dX6_isSo_52 0 rfl ?_
      refine GG.iconst C dX6_isSo_53 ic_1 ?_
      refine GG.icmp_ne C (tgt := 78) dX6_isSo_54 (by decide) (fun c6 => ?_) (fun c6 => ?_)
      · have hf := if_f hf c6
        refine GG.aload_n C dX6_isSo_78 1 rfl ?_
        refine GG.aload_n C dX6_isSo_79 1 rfl ?_
        refine GG.gm20 C rfl dX6_isSo_80 ?_
        refine GG.iload_n C dX6_isSo_83 2 rfl ?_
        refine GG.iconst C dX6_isSo_84 ic_2 ?_
        refine GG.iadd C dX6_isSo_85 ?_
        obtain ⟨v7, hv7, hf⟩ := obd_some hf
        refine GG.mi C rfl hv7 dX6_isSo_86 ?_
        obtain ⟨v8, hv8, hf⟩ := obd_some hf
        refine GG.c_X6_311 C rfl (gX6_isChange hv8) ⟨Nat.le_of_ble_eq_true rfl, Nat.le_of_ble_eq_true rfl⟩ ⟨Nat.le_of_ble_eq_true rfl, Nat.le_of_ble_eq_true rfl⟩ (Nat.le_of_ble_eq_true rfl) dX6_isSo_87 ?_
        refine GG.if_eq C (tgt := 127) dX6_isSo_90 (by decide) (fun c9 => ?_) (fun c9 => ?_)
        · have hf := if_t hf c9
          refine GG.iconst C dX6_isSo_127 ic_0 ?_
          have hf := Option.some.inj hf
          subst hf
          exact GG.zret C zb_0 E dX6_isSo_128
        · have hf := if_f hf c9
          refine GG.aload_n C dX6_isSo_93 1 rfl ?_
          refine GG.gm20 C rfl dX6_isSo_94 ?_
          refine GG.bipush C dX6_isSo_97 bp_114 ?_
          refine GG.aload_n C dX6_isSo_99 1 rfl ?_
          refine GG.gm20 C rfl dX6_isSo_100 ?_
          refine GG.iload_n C dX6_isSo_103 2 rfl ?_
          refine GG.iconst C dX6_isSo_104 ic_1 ?_
          refine GG.iadd C dX6_isSo_105 ?_
          obtain ⟨v10, hv10, hf⟩ := obd_some hf
          refine GG.mi C rfl hv10 dX6_isSo_106 ?_
          refine GG.iadd C dX6_isSo_107 ?_
          obtain ⟨v11, hv11, hf⟩ := obd_some hf
          refine GG.mi C rfl hv11 dX6_isSo_108 ?_
          refine GG.aload_n C dX6_isSo_109 1 rfl ?_
          refine GG.gm20 C rfl dX6_isSo_110 ?_
          refine GG.iload_n C dX6_isSo_113 2 rfl ?_
          refine GG.iconst C dX6_isSo_114 ic_2 ?_
          refine GG.iadd C dX6_isSo_115 ?_
          obtain ⟨v12, hv12, hf⟩ := obd_some hf
          refine GG.mi C rfl hv12 dX6_isSo_116 ?_
          obtain ⟨v13, hv13, hf⟩ := obd_some hf
          refine GG.c_X6_302 C rfl (gX6_hasIn hv13) ⟨Nat.le_of_ble_eq_true rfl, Nat.le_of_ble_eq_true rfl⟩ ⟨Nat.le_of_ble_eq_true rfl, Nat.le_of_ble_eq_true rfl⟩ (Nat.le_of_ble_eq_true rfl) dX6_isSo_117 ?_
          refine GG.if_eq C (tgt := 127) dX6_isSo_120 (by decide) (fun c14 => ?_) (fun c14 => ?_)
          · have hf := if_t hf c14
            refine GG.iconst C dX6_isSo_127 ic_0 ?_
            have hf := Option.some.inj hf
            subst hf
            exact GG.zret C zb_0 E dX6_isSo_128
          · have hf := if_f hf c14
            refine GG.iconst C dX6_isSo_123 ic_1 ?_
            refine GG.goto C (tgt := 128) dX6_isSo_124 (by decide) ?_
            have hf := Option.some.inj hf
            subst hf
            exact GG.zret C zb_1 E dX6_isSo_128
      · have hf := if_t hf c6
        refine GG.aload_n C dX6_isSo_57 1 rfl ?_
        refine GG.aload_n C dX6_isSo_58 1 rfl ?_
        refine GG.gm20 C rfl dX6_isSo_59 ?_
        refine GG.bipush C dX6_isSo_62 bp_114 ?_
        refine GG.aload_n C dX6_isSo_64 1 rfl ?_
        refine GG.gm20 C rfl dX6_isSo_65 ?_
        refine GG.iload_n C dX6_isSo_68 2 rfl ?_
        refine GG.iconst C dX6_isSo_69 ic_1 ?_
        refine GG.iadd C dX6_isSo_70 ?_
        obtain ⟨v15, hv15, hf⟩ := obd_some hf
        refine GG.mi C rfl hv15 dX6_isSo_71 ?_
        refine GG.iadd C dX6_isSo_72 ?_
        obtain ⟨v16, hv16, hf⟩ := obd_some hf
        refine GG.mi C rfl hv16 dX6_isSo_73 ?_
        obtain ⟨v17, hv17, hf⟩ := obd_some hf
        refine GG.c_X6_374 C rfl (gX6_isQuiet hv17) ⟨Nat.le_of_ble_eq_true rfl, Nat.le_of_ble_eq_true rfl⟩ ⟨Nat.le_of_ble_eq_true rfl, Nat.le_of_ble_eq_true rfl⟩ (Nat.le_of_ble_eq_true rfl) dX6_isSo_74 ?_
        obtain ⟨c18, hf⟩ := gd_some hf
        have hf := Option.some.inj hf
        subst hf
        exact GG.zret C c18 E dX6_isSo_77
    · have hf := if_t hf c5
      refine GG.iconst C dX6_isSo_50 ic_0 ?_
      have hf := Option.some.inj hf
      subst hf
      exact GG.zret C zb_0 E dX6_isSo_51
  · have hf := if_t hf c2
    refine GG.aload_n C dX6_isSo_14 1 rfl ?_
    refine GG.gm39 C rfl dX6_isSo_15 ?_
    refine GG.aload_n C dX6_isSo_18 1 rfl ?_
    refine GG.gm20 C rfl dX6_isSo_19 ?_
    refine GG.iload_n C dX6_isSo_22 2 rfl ?_
    refine GG.iconst C dX6_isSo_23 ic_1 ?_
    refine GG.iadd C dX6_isSo_24 ?_
    obtain ⟨v19, hv19, hf⟩ := obd_some hf
    refine GG.mi C rfl hv19 dX6_isSo_25 ?_
    refine GG.icmp_lt C (tgt := 33) dX6_isSo_26 (by decide) (fun c20 => ?_) (fun c20 => ?_)
    · have hf := if_t hf c20
      refine GG.iconst C dX6_isSo_33 ic_0 ?_
      have hf := Option.some.inj hf
      subst hf
      exact GG.zret C zb_0 E dX6_isSo_34
    · have hf := if_f hf c20
      refine GG.iconst C dX6_isSo_29 ic_1 ?_
      refine GG.goto C (tgt := 34) dX6_isSo_30 (by decide) ?_
      have hf := Option.some.inj hf
      subst hf
      exact GG.zret C zb_1 E dX6_isSo_34
theorem gX6_doOne_56 {K : gK} {X : gX} {rec : MS → Int32 → Int32 → Option MS} {d : Nat} {M : XS} (C : gC K X cX6_doOne 5 yX6_doOne none (rX6_doOne d)) (hrec : ∀ {S : MS} {a1 a2 : Int32} {o : MS}, rec S a1 a2 = some o → gMet K yX6_doAll cX6_doAll 4 none (rX6_doAll d) [.ref (kh K), .int a1, .int a2] M (some S) none M (some o))  {o : MS} (E : gE K X none M (some o) (rX6_doOne d).cells (rX6_doOne d).slots)   :
    ∀ (S : MS) (a2 : Int32) (a3 : Int32), fX6_doOne_56 rec S a2 a3 = some o → GG K X 5 0 0 M (some S) 56 [(0, .ref (kh K)), (2, .int a2), (3, .int a3)] [] := by
  intro S a2 a3 hf
  unfold fX6_doOne_56 at hf
  refine GG.aload_n C dX6_doOne_56 0 rfl ?_
  refine GG.iload_n C dX6_doOne_57 2 rfl ?_
  refine GG.aload_n C dX6_doOne_58 0 rfl ?_
  refine GG.gm20 C rfl dX6_doOne_59 ?_
  refine GG.iload_n C dX6_doOne_62 1 rfl ?_
  refine GG.iconst C dX6_doOne_63 ic_1 ?_
  refine GG.iadd C dX6_doOne_64 ?_
  obtain ⟨v30, hv30, hf⟩ := obd_some hf
  refine GG.mi C rfl hv30 dX6_doOne_65 ?_
  refine GG.aload_n C dX6_doOne_66 0 rfl ?_
  refine GG.gm20 C rfl dX6_doOne_67 ?_
  refine GG.iload_n C dX6_doOne_70 1 rfl ?_
  refine GG.iconst C dX6_doOne_71 ic_2 ?_
  refine GG.iadd C dX6_doOne_72 ?_
  obtain ⟨v31, hv31, hf⟩ := obd_some hf
  refine GG.mi C rfl hv31 dX6_doOne_73 ?_
  obtain ⟨p32, hp32, hf⟩ := obd_some hf
  refine GG.c_X6_465 C rfl (gX6_doAt hp32) ⟨by first | exact Nat.le_of_ble_eq_true rfl | (dsimp only [rX6_doOne, rX6_doAt]; omega), by first | exact Nat.le_of_ble_eq_true rfl | (dsimp only [rX6_doOne, rX6_doAt]; omega)⟩ ⟨by first | exact Nat.le_of_ble_eq_true rfl | (dsimp only [rX6_doOne, rX6_doAt]; omega), by first | exact Nat.le_of_ble_eq_true rfl | (dsimp only [rX6_doOne, rX6_doAt]; omega)⟩ (Nat.le_of_ble_eq_true rfl) dX6_doOne_74 ?_
  refine GG.goto C (tgt := 231) dX6_doOne_77 (by decide) ?_
  have hf := Option.some.inj hf
  subst hf
  exact GG.vret C E dX6_doOne_231
theorem gX6_doOne_175 {K : gK} {X : gX} {rec : MS → Int32 → Int32 → Option MS} {d : Nat} {M : XS} (C : gC K X cX6_doOne 5 yX6_doOne none (rX6_doOne d)) (hrec : ∀ {S : MS} {a1 a2 : Int32} {o : MS}, rec S a1 a2 = some o → gMet K yX6_doAll cX6_doAll 4 none (rX6_doAll d) [.ref (kh K), .int a1, .int a2] M (some S) none M (some o))  {o : MS} (E : gE K X none M (some o) (rX6_doOne d).cells (rX6_doOne d).slots)   :
    ∀ (n : Nat) (S : MS) (a1 : Int32) (a2 : Int32) (a4 : Int32), fX6_doOne_175 rec n S a1 a2 a4 = some o → GG K X 5 0 0 M (some S) 175 [(0, .ref (kh K)), (1, .int a1), (2, .int a2), (4, .int a4)] [] := by
  intro n
  induction n with
  | zero => intro S a1 a2 a4 hf; cases hf
  | succ n ih =>
    intro S a1 a2 a4 hf
    rw [fX6_doOne_175] at hf
    refine GG.iload C dX6_doOne_175 3 rfl ?_
    refine GG.aload_n C dX6_doOne_177 0 rfl ?_
    refine GG.gm20 C rfl dX6_doOne_178 ?_
    refine GG.iload_n C dX6_doOne_181 2 rfl ?_
    refine GG.iconst C dX6_doOne_182 ic_1 ?_
    refine GG.iadd C dX6_doOne_183 ?_
    obtain ⟨v25, hv25, hf⟩ := obd_some hf
    refine GG.mi C rfl hv25 dX6_doOne_184 ?_
    refine GG.icmp_ge C (tgt := 217) dX6_doOne_185 (by decide) (fun c26 => ?_) (fun c26 => ?_)
    · have hf := if_t hf c26
      refine GG.goto C (tgt := 231) dX6_doOne_217 (by decide) ?_
      have hf := Option.some.inj hf
      subst hf
      exact GG.vret C E dX6_doOne_231
    · have hf := if_f hf c26
      refine GG.aload_n C dX6_doOne_188 0 rfl ?_
      refine GG.gm44 C rfl dX6_doOne_189 ?_
      refine GG.if_ne C (tgt := 217) dX6_doOne_192 (by decide) (fun c27 => ?_) (fun c27 => ?_)
      · have hf := if_f hf c27
        refine GG.goto C (tgt := 231) dX6_doOne_217 (by decide) ?_
        have hf := Option.some.inj hf
        subst hf
        exact GG.vret C E dX6_doOne_231
      · have hf := if_t hf c27
        refine GG.aload_n C dX6_doOne_195 0 rfl ?_
        refine GG.iload_n C dX6_doOne_196 1 rfl ?_
        refine GG.iconst C dX6_doOne_197 ic_1 ?_
        refine GG.iadd C dX6_doOne_198 ?_
        refine GG.aload_n C dX6_doOne_199 0 rfl ?_
        refine GG.gm20 C rfl dX6_doOne_200 ?_
        refine GG.iload_n C dX6_doOne_203 2 rfl ?_
        refine GG.bipush C dX6_doOne_204 bp_6 ?_
        refine GG.iadd C dX6_doOne_206 ?_
        obtain ⟨v28, hv28, hf⟩ := obd_some hf
        refine GG.mi C rfl hv28 dX6_doOne_207 ?_
        obtain ⟨p29, hp29, hf⟩ := obd_some hf
        refine GG.c_X6_480 C rfl (hrec hp29) ⟨by first | exact Nat.le_of_ble_eq_true rfl | (dsimp only [rX6_doOne, rX6_doAll]; omega), by first | exact Nat.le_of_ble_eq_true rfl | (dsimp only [rX6_doOne, rX6_doAll]; omega)⟩ ⟨by first | exact Nat.le_of_ble_eq_true rfl | (dsimp only [rX6_doOne, rX6_doAll]; omega), by first | exact Nat.le_of_ble_eq_true rfl | (dsimp only [rX6_doOne, rX6_doAll]; omega)⟩ (Nat.le_of_ble_eq_true rfl) dX6_doOne_208 ?_
        refine GG.iinc C (v := (a4 + (nI 1))) (lv' := [(4, .int (a4 + (nI 1))), (0, .ref (kh K)), (1, .int a1), (2, .int a2)]) dX6_doOne_211 3 rfl (congrArg (a4 + ·) ic_1) (by decide) rfl ?_
        refine GG.goto C (tgt := 175) dX6_doOne_214 (by decide) ?_
        refine GG.sub [1, 2, 3, 0] rfl ?_
        exact ih _ _ _ _ hf
theorem gX6_doOne_166 {K : gK} {X : gX} {rec : MS → Int32 → Int32 → Option MS} {d : Nat} {M : XS} (C : gC K X cX6_doOne 5 yX6_doOne none (rX6_doOne d)) (hrec : ∀ {S : MS} {a1 a2 : Int32} {o : MS}, rec S a1 a2 = some o → gMet K yX6_doAll cX6_doAll 4 none (rX6_doAll d) [.ref (kh K), .int a1, .int a2] M (some S) none M (some o))  {o : MS} (E : gE K X none M (some o) (rX6_doOne d).cells (rX6_doOne d).slots)   :
    ∀ (S : MS) (a1 : Int32) (a2 : Int32) (a3 : Int32), fX6_doOne_166 rec S a1 a2 a3 = some o → GG K X 5 0 0 M (some S) 166 [(0, .ref (kh K)), (1, .int a1), (2, .int a2), (3, .int a3)] [] := by
  intro S a1 a2 a3 hf
  unfold fX6_doOne_166 at hf
  refine GG.iload_n C dX6_doOne_166 3 rfl ?_
  refine GG.bipush C dX6_doOne_167 bp_7 ?_
  refine GG.icmp_ne C (tgt := 220) dX6_doOne_169 (by decide) (fun c22 => ?_) (fun c22 => ?_)
  · have hf := if_f hf c22
    refine GG.iload_n C dX6_doOne_220 3 rfl ?_
    refine GG.bipush C dX6_doOne_221 bp_7 ?_
    refine GG.icmp_le C (tgt := 231) dX6_doOne_223 (by decide) (fun c23 => ?_) (fun c23 => ?_)
    · have hf := if_t hf c23
      have hf := Option.some.inj hf
      subst hf
      exact GG.vret C E dX6_doOne_231
    · have hf := if_f hf c23
      refine GG.aload_n C dX6_doOne_226 0 rfl ?_
      refine GG.iconst C dX6_doOne_227 ic_1 ?_
      refine GG.pm44 C rfl (by decide) (by decide) dX6_doOne_228 ?_
      refine GG.topS fun S24 hS24 => ?_
      have hf := ltb_s hS24 hf
      have hf := Option.some.inj hf
      subst hf
      exact GG.vret C E dX6_doOne_231
  · have hf := if_t hf c22
    refine GG.iconst C dX6_doOne_172 ic_0 ?_
    refine GG.istore C (lv' := [(4, .int (nI 0)), (0, .ref (kh K)), (1, .int a1), (2, .int a2), (3, .int a3)]) dX6_doOne_173 (by decide) rfl ?_
    refine GG.sub [1, 2, 3, 0] rfl ?_
    exact gX6_doOne_175 C hrec E  FU _ _ _ _ hf
theorem gX6_doOne {K : gK} {rec : MS → Int32 → Int32 → Option MS} {d : Nat} {M : XS} (hrec : ∀ {S : MS} {a1 a2 : Int32} {o : MS}, rec S a1 a2 = some o → gMet K yX6_doAll cX6_doAll 4 none (rX6_doAll d) [.ref (kh K), .int a1, .int a2] M (some S) none M (some o)) {S : MS} {a1 : Int32} {o : MS} (hf : fX6_doOne rec S a1 = some o) : gMet K yX6_doOne cX6_doOne 5 none (rX6_doOne d) [(.ref (kh K)), (.int a1)] M (some S) none M (some o) := by
  refine gMet.of pn_X6 (Nat.le_of_ble_eq_true rfl) fun X C E => ?_
  unfold fX6_doOne at hf
  show GG K X 5 0 0 M (some S) 0 [(0, .ref (kh K)), (1, .int a1)] []
  refine GG.aload_n C dX6_doOne_0 0 rfl ?_
  refine GG.gm38 C rfl dX6_doOne_1 ?_
  refine GG.sipush C dX6_doOne_4 sp_300 ?_
  refine GG.icmp_ne C (tgt := 16) dX6_doOne_7 (by decide) (fun c1 => ?_) (fun c1 => ?_)
  · have hf := if_f hf c1
    refine GG.aload_n C dX6_doOne_16 0 rfl ?_
    refine GG.dup C dX6_doOne_17 rfl ?_
    refine GG.gm38 C rfl dX6_doOne_18 ?_
    refine GG.iconst C dX6_doOne_21 ic_1 ?_
    refine GG.iadd C dX6_doOne_22 ?_
    refine GG.pm38 C rfl dX6_doOne_23 ?_
    refine GG.topS fun S2 hS2 => ?_
    have hf := ltb_s hS2 hf
    refine GG.sipush C dX6_doOne_26 sp_137 ?_
    refine GG.bipush C dX6_doOne_29 bp_7 ?_
    refine GG.iload_n C dX6_doOne_31 1 rfl ?_
    refine GG.imul C dX6_doOne_32 ?_
    refine GG.iadd C dX6_doOne_33 ?_
    refine GG.topi fun x3 hx3 => ?_
    have hf := ltb_s hx3 hf
    refine GG.istore_n C (lv' := [(2, .int x3), (0, .ref (kh K)), (1, .int a1)]) dX6_doOne_34 (by decide) rfl ?_
    refine GG.aload_n C dX6_doOne_35 1 rfl ?_
    refine GG.gm20 C rfl dX6_doOne_36 ?_
    refine GG.iload_n C dX6_doOne_39 0 rfl ?_
    obtain ⟨v4, hv4, hf⟩ := obd_some hf
    refine GG.mi C rfl hv4 dX6_doOne_40 ?_
    refine GG.istore_n C (lv' := [(3, .int v4), (2, .int x3), (0, .ref (kh K)), (1, .int a1)]) dX6_doOne_41 (by decide) rfl ?_
    refine GG.iload_n C dX6_doOne_42 0 rfl ?_
    refine GG.if_eq C (tgt := 56) dX6_doOne_43 (by decide) (fun c5 => ?_) (fun c5 => ?_)
    · have hf := if_t hf c5
      refine GG.sub [2, 1, 0] rfl ?_
      exact gX6_doOne_56 C hrec E  _ _ _ hf
    · have hf := if_f hf c5
      refine GG.iload_n C dX6_doOne_46 0 rfl ?_
      refine GG.iconst C dX6_doOne_47 ic_2 ?_
      refine GG.icmp_eq C (tgt := 56) dX6_doOne_48 (by decide) (fun c6 => ?_) (fun c6 => ?_)
      · have hf := if_t hf c6
        refine GG.sub [2, 1, 0] rfl ?_
        exact gX6_doOne_56 C hrec E  _ _ _ hf
      · have hf := if_f hf c6
        refine GG.iload_n C dX6_doOne_51 0 rfl ?_
        refine GG.iconst C dX6_doOne_52 ic_3 ?_
        refine GG.icmp_ne C (tgt := 80) dX6_doOne_53 (by decide) (fun c7 => ?_) (fun c7 => ?_)
        · have hf := if_f hf c7
          refine GG.iload_n C dX6_doOne_80 0 rfl ?_
          refine GG.iconst C dX6_doOne_81 ic_1 ?_
          refine GG.icmp_ne C (tgt := 93) dX6_doOne_82 (by decide) (fun c8 => ?_) (fun c8 => ?_)
          · have hf := if_f hf c8
            refine GG.iload_n C dX6_doOne_93 0 rfl ?_
            refine GG.iconst C dX6_doOne_94 ic_4 ?_
            refine GG.icmp_ne C (tgt := 113) dX6_doOne_95 (by decide) (fun c9 => ?_) (fun c9 => ?_)
            · have hf := if_f hf c9
              refine GG.iload_n C dX6_doOne_113 0 rfl ?_
              refine GG.iconst C dX6_doOne_114 ic_5 ?_
              refine GG.icmp_ne C (tgt := 133) dX6_doOne_115 (by decide) (fun c10 => ?_) (fun c10 => ?_)
              · have hf := if_f hf c10
                refine GG.iload_n C dX6_doOne_133 0 rfl ?_
                refine GG.bipush C dX6_doOne_134 bp_6 ?_
                refine GG.icmp_ne C (tgt := 166) dX6_doOne_136 (by decide) (fun c11 => ?_) (fun c11 => ?_)
                · have hf := if_f hf c11
                  refine GG.sub [2, 3, 1, 0] rfl ?_
                  exact gX6_doOne_166 C hrec E  _ _ _ _ hf
                · have hf := if_t hf c11
                  refine GG.aload_n C dX6_doOne_139 2 rfl ?_
                  refine GG.iload_n C dX6_doOne_140 1 rfl ?_
                  obtain ⟨v12, hv12, hf⟩ := obd_some hf
                  refine GG.c_X6_477 C rfl (gX6_isSo hv12) ⟨by first | exact Nat.le_of_ble_eq_true rfl | (dsimp only [rX6_doOne, rX6_isSo]; omega), by first | exact Nat.le_of_ble_eq_true rfl | (dsimp only [rX6_doOne, rX6_isSo]; omega)⟩ ⟨by first | exact Nat.le_of_ble_eq_true rfl | (dsimp only [rX6_doOne, rX6_isSo]; omega), by first | exact Nat.le_of_ble_eq_true rfl | (dsimp only [rX6_doOne, rX6_isSo]; omega)⟩ (Nat.le_of_ble_eq_true rfl) dX6_doOne_141 ?_
                  refine GG.if_eq C (tgt := 166) dX6_doOne_144 (by decide) (fun c13 => ?_) (fun c13 => ?_)
                  · have hf := if_t hf c13
                    refine GG.sub [2, 3, 1, 0] rfl ?_
                    exact gX6_doOne_166 C hrec E  _ _ _ _ hf
                  · have hf := if_f hf c13
                    refine GG.aload_n C dX6_doOne_147 2 rfl ?_
                    refine GG.iload_n C dX6_doOne_148 3 rfl ?_
                    refine GG.iconst C dX6_doOne_149 ic_1 ?_
                    refine GG.iadd C dX6_doOne_150 ?_
                    refine GG.aload_n C dX6_doOne_151 2 rfl ?_
                    refine GG.gm20 C rfl dX6_doOne_152 ?_
                    refine GG.iload_n C dX6_doOne_155 1 rfl ?_
                    refine GG.bipush C dX6_doOne_156 bp_6 ?_
                    refine GG.iadd C dX6_doOne_158 ?_
                    obtain ⟨v14, hv14, hf⟩ := obd_some hf
                    refine GG.mi C rfl hv14 dX6_doOne_159 ?_
                    obtain ⟨p15, hp15, hf⟩ := obd_some hf
                    refine GG.c_X6_480 C rfl (hrec hp15) ⟨by first | exact Nat.le_of_ble_eq_true rfl | (dsimp only [rX6_doOne, rX6_doAll]; omega), by first | exact Nat.le_of_ble_eq_true rfl | (dsimp only [rX6_doOne, rX6_doAll]; omega)⟩ ⟨by first | exact Nat.le_of_ble_eq_true rfl | (dsimp only [rX6_doOne, rX6_doAll]; omega), by first | exact Nat.le_of_ble_eq_true rfl | (dsimp only [rX6_doOne, rX6_doAll]; omega)⟩ (Nat.le_of_ble_eq_true rfl) dX6_doOne_160 ?_
                    refine GG.goto C (tgt := 231) dX6_doOne_163 (by decide) ?_
                    have hf := Option.some.inj hf
                    subst hf
                    exact GG.vret C E dX6_doOne_231
              · have hf := if_t hf c10
                refine GG.aload_n C dX6_doOne_118 2 rfl ?_
                refine GG.aload_n C dX6_doOne_119 2 rfl ?_
                refine GG.gm20 C rfl dX6_doOne_120 ?_
                refine GG.iload_n C dX6_doOne_123 1 rfl ?_
                refine GG.iconst C dX6_doOne_124 ic_1 ?_
                refine GG.iadd C dX6_doOne_125 ?_
                obtain ⟨v16, hv16, hf⟩ := obd_some hf
                refine GG.mi C rfl hv16 dX6_doOne_126 ?_
                obtain ⟨p17, hp17, hf⟩ := obd_some hf
                refine GG.c_X6_474 C rfl (gX6_doDraw hp17) ⟨by first | exact Nat.le_of_ble_eq_true rfl | (dsimp only [rX6_doOne, rX6_doDraw]; omega), by first | exact Nat.le_of_ble_eq_true rfl | (dsimp only [rX6_doOne, rX6_doDraw]; omega)⟩ ⟨by first | exact Nat.le_of_ble_eq_true rfl | (dsimp only [rX6_doOne, rX6_doDraw]; omega), by first | exact Nat.le_of_ble_eq_true rfl | (dsimp only [rX6_doOne, rX6_doDraw]; omega)⟩ (Nat.le_of_ble_eq_true rfl) dX6_doOne_127 ?_
                refine GG.goto C (tgt := 231) dX6_doOne_130 (by decide) ?_
                have hf := Option.some.inj hf
                subst hf
                exact GG.vret C E dX6_doOne_231
            · have hf := if_t hf c9
              refine GG.aload_n C dX6_doOne_98 2 rfl ?_
              refine GG.aload_n C dX6_doOne_99 2 rfl ?_
              refine GG.gm20 C rfl dX6_doOne_100 ?_
              refine GG.iload_n C dX6_doOne_103 1 rfl ?_
              refine GG.iconst C dX6_doOne_104 ic_1 ?_
              refine GG.iadd C dX6_doOne_105 ?_
              obtain ⟨v18, hv18, hf⟩ := obd_some hf
              refine GG.mi C rfl hv18 dX6_doOne_106 ?_
              obtain ⟨p19, hp19, hf⟩ := obd_some hf
              refine GG.c_X6_471 C rfl (gX6_doWait hp19) ⟨by first | exact Nat.le_of_ble_eq_true rfl | (dsimp only [rX6_doOne, rX6_doWait]; omega), by first | exact Nat.le_of_ble_eq_true rfl | (dsimp only [rX6_doOne, rX6_doWait]; omega)⟩ ⟨by first | exact Nat.le_of_ble_eq_true rfl | (dsimp only [rX6_doOne, rX6_doWait]; omega), by first | exact Nat.le_of_ble_eq_true rfl | (dsimp only [rX6_doOne, rX6_doWait]; omega)⟩ (Nat.le_of_ble_eq_true rfl) dX6_doOne_107 ?_
              refine GG.goto C (tgt := 231) dX6_doOne_110 (by decide) ?_
              have hf := Option.some.inj hf
              subst hf
              exact GG.vret C E dX6_doOne_231
          · have hf := if_t hf c8
            refine GG.aload_n C dX6_doOne_85 2 rfl ?_
            refine GG.iload_n C dX6_doOne_86 1 rfl ?_
            obtain ⟨p20, hp20, hf⟩ := obd_some hf
            refine GG.c_X6_468 C rfl (gX6_doShip hp20) ⟨by first | exact Nat.le_of_ble_eq_true rfl | (dsimp only [rX6_doOne, rX6_doShip]; omega), by first | exact Nat.le_of_ble_eq_true rfl | (dsimp only [rX6_doOne, rX6_doShip]; omega)⟩ ⟨by first | exact Nat.le_of_ble_eq_true rfl | (dsimp only [rX6_doOne, rX6_doShip]; omega), by first | exact Nat.le_of_ble_eq_true rfl | (dsimp only [rX6_doOne, rX6_doShip]; omega)⟩ (Nat.le_of_ble_eq_true rfl) dX6_doOne_87 ?_
            refine GG.goto C (tgt := 231) dX6_doOne_90 (by decide) ?_
            have hf := Option.some.inj hf
            subst hf
            exact GG.vret C E dX6_doOne_231
        · have hf := if_t hf c7
          refine GG.sub [2, 1, 0] rfl ?_
          exact gX6_doOne_56 C hrec E  _ _ _ hf
  · have hf := if_t hf c1
    refine GG.aload_n C dX6_doOne_10 0 rfl ?_
    refine GG.iconst C dX6_doOne_11 ic_1 ?_
    refine GG.pm44 C rfl (by decide) (by decide) dX6_doOne_12 ?_
    refine GG.topS fun S21 hS21 => ?_
    have hf := ltb_s hS21 hf
    have hf := Option.some.inj hf
    subst hf
    exact GG.vret C E dX6_doOne_15
theorem gX6_doAll_2 {K : gK} {X : gX} {rec : MS → Int32 → Int32 → Option MS} {d : Nat} {M : XS} (C : gC K X cX6_doAll 4 yX6_doAll none (rX6_doAll (d + 1))) (hrec : ∀ {S : MS} {a1 a2 : Int32} {o : MS}, rec S a1 a2 = some o → gMet K yX6_doAll cX6_doAll 4 none (rX6_doAll d) [.ref (kh K), .int a1, .int a2] M (some S) none M (some o))  {o : MS} (E : gE K X none M (some o) (rX6_doAll (d + 1)).cells (rX6_doAll (d + 1)).slots)   :
    ∀ (n : Nat) (S : MS) (a2 : Int32) (a3 : Int32), fX6_doAll_2 rec n S a2 a3 = some o → GG K X 4 0 0 M (some S) 2 [(0, .ref (kh K)), (2, .int a2), (3, .int a3)] [] := by
  intro n
  induction n with
  | zero => intro S a2 a3 hf; cases hf
  | succ n ih =>
    intro S a2 a3 hf
    rw [fX6_doAll_2] at hf
    refine GG.iload_n C dX6_doAll_2 2 rfl ?_
    refine GG.iload_n C dX6_doAll_3 1 rfl ?_
    refine GG.icmp_ge C (tgt := 39) dX6_doAll_4 (by decide) (fun c1 => ?_) (fun c1 => ?_)
    · have hf := if_t hf c1
      have hf := Option.some.inj hf
      subst hf
      exact GG.vret C E dX6_doAll_39
    · have hf := if_f hf c1
      refine GG.aload_n C dX6_doAll_7 0 rfl ?_
      refine GG.gm44 C rfl dX6_doAll_8 ?_
      refine GG.if_ne C (tgt := 39) dX6_doAll_11 (by decide) (fun c2 => ?_) (fun c2 => ?_)
      · have hf := if_f hf c2
        have hf := Option.some.inj hf
        subst hf
        exact GG.vret C E dX6_doAll_39
      · have hf := if_t hf c2
        refine GG.aload_n C dX6_doAll_14 0 rfl ?_
        refine GG.iload_n C dX6_doAll_15 2 rfl ?_
        obtain ⟨p3, hp3, hf⟩ := obd_some hf
        refine GG.c_X6_483 C rfl (gX6_doOne hrec hp3) ⟨by first | exact Nat.le_of_ble_eq_true rfl | (dsimp only [rX6_doAll, rX6_doOne]; omega), by first | exact Nat.le_of_ble_eq_true rfl | (dsimp only [rX6_doAll, rX6_doOne]; omega)⟩ ⟨by first | exact Nat.le_of_ble_eq_true rfl | (dsimp only [rX6_doAll, rX6_doOne]; omega), by first | exact Nat.le_of_ble_eq_true rfl | (dsimp only [rX6_doAll, rX6_doOne]; omega)⟩ (Nat.le_of_ble_eq_true rfl) dX6_doAll_16 ?_
        refine GG.aload_n C dX6_doAll_19 0 rfl ?_
        refine GG.gm20 C rfl dX6_doAll_20 ?_
        refine GG.sipush C dX6_doAll_23 sp_137 ?_
        refine GG.bipush C dX6_doAll_26 bp_7 ?_
        refine GG.iload_n C dX6_doAll_28 2 rfl ?_
        refine GG.imul C dX6_doAll_29 ?_
        refine GG.iadd C dX6_doAll_30 ?_
        refine GG.bipush C dX6_doAll_31 bp_6 ?_
        refine GG.iadd C dX6_doAll_33 ?_
        obtain ⟨v4, hv4, hf⟩ := obd_some hf
        refine GG.mi C rfl hv4 dX6_doAll_34 ?_
        refine GG.istore_n C (lv' := [(3, .int v4), (0, .ref (kh K)), (2, .int a2)]) dX6_doAll_35 (by decide) rfl ?_
        refine GG.goto C (tgt := 2) dX6_doAll_36 (by decide) ?_
        refine GG.sub [1, 2, 0] rfl ?_
        exact ih _ _ _ hf
theorem gX6_doAll_b {K : gK} {rec : MS → Int32 → Int32 → Option MS} {d : Nat} {M : XS} (hrec : ∀ {S : MS} {a1 a2 : Int32} {o : MS}, rec S a1 a2 = some o → gMet K yX6_doAll cX6_doAll 4 none (rX6_doAll d) [.ref (kh K), .int a1, .int a2] M (some S) none M (some o)) {S : MS} {a1 : Int32} {a2 : Int32} {o : MS} (hf : fX6_doAll_b rec S a1 a2 = some o) : gMet K yX6_doAll cX6_doAll 4 none (rX6_doAll (d + 1)) [(.ref (kh K)), (.int a1), (.int a2)] M (some S) none M (some o) := by
  refine gMet.of pn_X6 (Nat.le_of_ble_eq_true rfl) fun X C E => ?_
  unfold fX6_doAll_b at hf
  show GG K X 4 0 0 M (some S) 0 [(0, .ref (kh K)), (1, .int a1), (2, .int a2)] []
  refine GG.iload_n C dX6_doAll_0 1 rfl ?_
  refine GG.istore_n C (lv' := [(3, .int a1), (0, .ref (kh K)), (1, .int a1), (2, .int a2)]) dX6_doAll_1 (by decide) rfl ?_
  refine GG.sub [1, 3, 0] rfl ?_
  exact gX6_doAll_2 C hrec E  FU _ _ _ hf
theorem gX6_doAll {K : gK} {M : XS} : ∀ (d : Nat) {S : MS} {a1 a2 : Int32} {o : MS}, fX6_doAll d S a1 a2 = some o → gMet K yX6_doAll cX6_doAll 4 none (rX6_doAll d) [(.ref (kh K)), (.int a1), (.int a2)] M (some S) none M (some o) := by
  intro d
  induction d with
  | zero => intro S a1 a2 o hf; cases hf
  | succ d ih =>
    intro S a1 a2 o hf
    rw [fX6_doAll] at hf
    exact gX6_doAll_b ih hf
theorem gX6_run {K : gK} {M : XS}  {S : MS} {a1 : Int32} {o : MS} (hf : fX6_run S a1 = some o) : gMet K yX6_run cX6_run 2 none rX6_run [(.ref (kh K)), (.int a1)] M (some S) none M (some o) := by
  refine gMet.of pn_X6 (Nat.le_of_ble_eq_true rfl) fun X C E => ?_
  unfold fX6_run at hf
  show GG K X 2 0 0 M (some S) 0 [(0, .ref (kh K)), (1, .int a1)] []
  refine GG.aload_n C dX6_run_0 0 rfl ?_
  refine GG.iload_n C dX6_run_1 1 rfl ?_
  refine GG.pm37 C rfl dX6_run_2 ?_
  refine GG.topS fun S1 hS1 => ?_
  have hf := ltb_s hS1 hf
  refine GG.aload_n C dX6_run_5 0 rfl ?_
  refine GG.iconst C dX6_run_6 ic_0 ?_
  refine GG.pm38 C rfl dX6_run_7 ?_
  refine GG.topS fun S2 hS2 => ?_
  have hf := ltb_s hS2 hf
  refine GG.aload_n C dX6_run_10 0 rfl ?_
  refine GG.iconst C dX6_run_11 ic_0 ?_
  refine GG.pm39 C rfl dX6_run_12 ?_
  refine GG.topS fun S3 hS3 => ?_
  have hf := ltb_s hS3 hf
  refine GG.aload_n C dX6_run_15 0 rfl ?_
  refine GG.iconst C dX6_run_16 ic_0 ?_
  refine GG.pm40 C rfl dX6_run_17 ?_
  refine GG.topS fun S4 hS4 => ?_
  have hf := ltb_s hS4 hf
  refine GG.aload_n C dX6_run_20 0 rfl ?_
  refine GG.iconst C dX6_run_21 ic_0 ?_
  refine GG.pm41 C rfl dX6_run_22 ?_
  refine GG.topS fun S5 hS5 => ?_
  have hf := ltb_s hS5 hf
  refine GG.aload_n C dX6_run_25 0 rfl ?_
  refine GG.iconst C dX6_run_26 ic_0 ?_
  refine GG.pm42 C rfl dX6_run_27 ?_
  refine GG.topS fun S6 hS6 => ?_
  have hf := ltb_s hS6 hf
  refine GG.aload_n C dX6_run_30 0 rfl ?_
  refine GG.iconst C dX6_run_31 ic_0 ?_
  refine GG.pm36 C rfl dX6_run_32 ?_
  refine GG.topS fun S7 hS7 => ?_
  have hf := ltb_s hS7 hf
  refine GG.aload_n C dX6_run_35 0 rfl ?_
  refine GG.iconst C dX6_run_36 ic_0 ?_
  refine GG.pm35 C rfl dX6_run_37 ?_
  refine GG.topS fun S8 hS8 => ?_
  have hf := ltb_s hS8 hf
  refine GG.aload_n C dX6_run_40 0 rfl ?_
  refine GG.iconst C dX6_run_41 ic_0 ?_
  refine GG.pm44 C rfl (by decide) (by decide) dX6_run_42 ?_
  refine GG.topS fun S9 hS9 => ?_
  have hf := ltb_s hS9 hf
  refine GG.aload_n C dX6_run_45 0 rfl ?_
  refine GG.iconst C dX6_run_46 ic_0 ?_
  refine GG.aload_n C dX6_run_47 0 rfl ?_
  refine GG.gm20 C rfl dX6_run_48 ?_
  refine GG.sipush C dX6_run_51 sp_136 ?_
  obtain ⟨v10, hv10, hf⟩ := obd_some hf
  refine GG.mi C rfl hv10 dX6_run_54 ?_
  obtain ⟨p11, hp11, hf⟩ := obd_some hf
  refine GG.c_X6_480 C rfl (gX6_doAll DU hp11) ⟨Nat.le_of_ble_eq_true rfl, Nat.le_of_ble_eq_true rfl⟩ ⟨Nat.le_of_ble_eq_true rfl, Nat.le_of_ble_eq_true rfl⟩ (Nat.le_of_ble_eq_true rfl) dX6_run_55 ?_
  have hf := Option.some.inj hf
  subst hf
  exact GG.vret C E dX6_run_58
theorem gX6_sail {K : gK} {M : XS}  {S : MS} {a1 : Int32} {o : (Int32 × MS)} (hf : fX6_sail S a1 = some o) : gMet K yX6_sail cX6_sail 2 (some Jvm.ClassFile.FieldType.int) rX6_sail [(.ref (kh K)), (.int a1)] M (some S) (some (.int o.1)) M (some o.2) := by
  refine gMet.of pn_X6 (Nat.le_of_ble_eq_true rfl) fun X C E => ?_
  unfold fX6_sail at hf
  show GG K X 2 0 0 M (some S) 0 [(0, .ref (kh K)), (1, .int a1)] []
  refine GG.aload_n C dX6_sail_0 0 rfl ?_
  refine GG.iconst C dX6_sail_1 ic_0 ?_
  refine GG.pm1 C rfl dX6_sail_2 ?_
  refine GG.topS fun S1 hS1 => ?_
  have hf := ltb_s hS1 hf
  refine GG.aload_n C dX6_sail_5 0 rfl ?_
  refine GG.iconst C dX6_sail_6 ic_0 ?_
  refine GG.pm0 C rfl dX6_sail_7 ?_
  refine GG.topS fun S2 hS2 => ?_
  have hf := ltb_s hS2 hf
  refine GG.iload_n C dX6_sail_10 1 rfl ?_
  refine GG.i2l C dX6_sail_11 ?_
  refine GG.lconst C dX6_sail_12 lc_0 ?_
  refine GG.ldc2 C (v := (lN 9999)) q2125 dX6_sail_13 ?_
  obtain ⟨v3, hv3, hf⟩ := obd_some hf
  refine GG.c_X6_110 C rfl (gX6_isIn hv3) ⟨Nat.le_of_ble_eq_true rfl, Nat.le_of_ble_eq_true rfl⟩ ⟨Nat.le_of_ble_eq_true rfl, Nat.le_of_ble_eq_true rfl⟩ (Nat.le_of_ble_eq_true rfl) dX6_sail_16 ?_
  refine GG.if_ne C (tgt := 28) dX6_sail_19 (by decide) (fun c4 => ?_) (fun c4 => ?_)
  · have hf := if_f hf c4
    refine GG.aload_n C dX6_sail_28 0 rfl ?_
    refine GG.gm20 C rfl dX6_sail_29 ?_
    refine GG.sipush C dX6_sail_32 sp_135 ?_
    obtain ⟨v5, hv5, hf⟩ := obd_some hf
    refine GG.mi C rfl hv5 dX6_sail_35 ?_
    refine GG.if_ne C (tgt := 46) dX6_sail_36 (by decide) (fun c6 => ?_) (fun c6 => ?_)
    · have hf := if_f hf c6
      refine GG.aload_n C dX6_sail_46 0 rfl ?_
      refine GG.iload_n C dX6_sail_47 1 rfl ?_
      obtain ⟨p7, hp7, hf⟩ := obd_some hf
      refine GG.c_X6_488 C rfl (gX6_run hp7) ⟨Nat.le_of_ble_eq_true rfl, Nat.le_of_ble_eq_true rfl⟩ ⟨Nat.le_of_ble_eq_true rfl, Nat.le_of_ble_eq_true rfl⟩ (Nat.le_of_ble_eq_true rfl) dX6_sail_48 ?_
      refine GG.aload_n C dX6_sail_51 0 rfl ?_
      refine GG.gm33 C rfl dX6_sail_52 ?_
      refine GG.iconst C dX6_sail_55 ic_0 ?_
      refine GG.aload_n C dX6_sail_56 0 rfl ?_
      refine GG.gm39 C rfl dX6_sail_57 ?_
      obtain ⟨S8, hS8, hf⟩ := obd_some hf
      refine GG.mis C rfl hS8 dX6_sail_60 ?_
      refine GG.aload_n C dX6_sail_61 0 rfl ?_
      refine GG.gm33 C rfl dX6_sail_62 ?_
      refine GG.iconst C dX6_sail_65 ic_1 ?_
      refine GG.aload_n C dX6_sail_66 0 rfl ?_
      refine GG.gm40 C rfl dX6_sail_67 ?_
      obtain ⟨S9, hS9, hf⟩ := obd_some hf
      refine GG.mis C rfl hS9 dX6_sail_70 ?_
      refine GG.aload_n C dX6_sail_71 0 rfl ?_
      refine GG.gm33 C rfl dX6_sail_72 ?_
      refine GG.iconst C dX6_sail_75 ic_2 ?_
      refine GG.aload_n C dX6_sail_76 0 rfl ?_
      refine GG.gm41 C rfl dX6_sail_77 ?_
      obtain ⟨S10, hS10, hf⟩ := obd_some hf
      refine GG.mis C rfl hS10 dX6_sail_80 ?_
      refine GG.aload_n C dX6_sail_81 0 rfl ?_
      refine GG.gm33 C rfl dX6_sail_82 ?_
      refine GG.iconst C dX6_sail_85 ic_3 ?_
      refine GG.aload_n C dX6_sail_86 0 rfl ?_
      refine GG.gm42 C rfl dX6_sail_87 ?_
      obtain ⟨S11, hS11, hf⟩ := obd_some hf
      refine GG.mis C rfl hS11 dX6_sail_90 ?_
      refine GG.aload_n C dX6_sail_91 0 rfl ?_
      refine GG.gm33 C rfl dX6_sail_92 ?_
      refine GG.iconst C dX6_sail_95 ic_4 ?_
      refine GG.aload_n C dX6_sail_96 0 rfl ?_
      refine GG.gm35 C rfl dX6_sail_97 ?_
      obtain ⟨S12, hS12, hf⟩ := obd_some hf
      refine GG.mis C rfl hS12 dX6_sail_100 ?_
      refine GG.aload_n C dX6_sail_101 0 rfl ?_
      refine GG.iconst C dX6_sail_102 ic_1 ?_
      refine GG.pm43 C rfl (by decide) (by decide) dX6_sail_103 ?_
      refine GG.topS fun S13 hS13 => ?_
      have hf := ltb_s hS13 hf
      refine GG.aload_n C dX6_sail_106 0 rfl ?_
      refine GG.gm38 C rfl dX6_sail_107 ?_
      have hf := Option.some.inj hf
      subst hf
      exact GG.iret C E dX6_sail_110
    · have hf := if_t hf c6
      refine GG.aload_n C dX6_sail_39 0 rfl ?_
      refine GG.bipush C dX6_sail_40 bp_8 ?_
      obtain ⟨p14, hp14, hf⟩ := obd_some hf
      refine GG.c_X6_299 C rfl (gX6_refuse hp14) ⟨Nat.le_of_ble_eq_true rfl, Nat.le_of_ble_eq_true rfl⟩ ⟨Nat.le_of_ble_eq_true rfl, Nat.le_of_ble_eq_true rfl⟩ (Nat.le_of_ble_eq_true rfl) dX6_sail_42 ?_
      have hf := Option.some.inj hf
      subst hf
      exact GG.iret C E dX6_sail_45
  · have hf := if_t hf c4
    refine GG.aload_n C dX6_sail_22 0 rfl ?_
    refine GG.iconst C dX6_sail_23 ic_5 ?_
    obtain ⟨p15, hp15, hf⟩ := obd_some hf
    refine GG.c_X6_299 C rfl (gX6_refuse hp15) ⟨Nat.le_of_ble_eq_true rfl, Nat.le_of_ble_eq_true rfl⟩ ⟨Nat.le_of_ble_eq_true rfl, Nat.le_of_ble_eq_true rfl⟩ (Nat.le_of_ble_eq_true rfl) dX6_sail_24 ?_
    have hf := Option.some.inj hf
    subst hf
    exact GG.iret C E dX6_sail_27
theorem gX6_sailed {K : gK} {M : XS}  {S : MS} {a1 : Int32} {o : (Int32 × MS)} (hf : fX6_sailed S a1 = some o) : gMet K yX6_sailed cX6_sailed 2 (some Jvm.ClassFile.FieldType.int) rX6_sailed [(.ref (kh K)), (.int a1)] M (some S) (some (.int o.1)) M (some o.2) := by
  refine gMet.of pn_X6 (Nat.le_of_ble_eq_true rfl) fun X C E => ?_
  unfold fX6_sailed at hf
  show GG K X 2 0 0 M (some S) 0 [(0, .ref (kh K)), (1, .int a1)] []
  refine GG.aload_n C dX6_sailed_0 0 rfl ?_
  refine GG.iconst C dX6_sailed_1 ic_0 ?_
  refine GG.pm1 C rfl dX6_sailed_2 ?_
  refine GG.topS fun S1 hS1 => ?_
  have hf := ltb_s hS1 hf
  refine GG.aload_n C dX6_sailed_5 0 rfl ?_
  refine GG.iconst C dX6_sailed_6 ic_0 ?_
  refine GG.pm0 C rfl dX6_sailed_7 ?_
  refine GG.topS fun S2 hS2 => ?_
  have hf := ltb_s hS2 hf
  refine GG.iload_n C dX6_sailed_10 1 rfl ?_
  refine GG.i2l C dX6_sailed_11 ?_
  refine GG.lconst C dX6_sailed_12 lc_0 ?_
  refine GG.ldc2 C (v := (lN 4)) q2178 dX6_sailed_13 ?_
  obtain ⟨v3, hv3, hf⟩ := obd_some hf
  refine GG.c_X6_110 C rfl (gX6_isIn hv3) ⟨Nat.le_of_ble_eq_true rfl, Nat.le_of_ble_eq_true rfl⟩ ⟨Nat.le_of_ble_eq_true rfl, Nat.le_of_ble_eq_true rfl⟩ (Nat.le_of_ble_eq_true rfl) dX6_sailed_16 ?_
  refine GG.if_ne C (tgt := 28) dX6_sailed_19 (by decide) (fun c4 => ?_) (fun c4 => ?_)
  · have hf := if_f hf c4
    refine GG.aload_n C dX6_sailed_28 0 rfl ?_
    refine GG.gm43 C rfl dX6_sailed_29 ?_
    refine GG.if_eq C (tgt := 44) dX6_sailed_32 (by decide) (fun c5 => ?_) (fun c5 => ?_)
    · have hf := if_t hf c5
      refine GG.aload_n C dX6_sailed_44 0 rfl ?_
      refine GG.bipush C dX6_sailed_45 bp_8 ?_
      obtain ⟨p6, hp6, hf⟩ := obd_some hf
      refine GG.c_X6_299 C rfl (gX6_refuse hp6) ⟨Nat.le_of_ble_eq_true rfl, Nat.le_of_ble_eq_true rfl⟩ ⟨Nat.le_of_ble_eq_true rfl, Nat.le_of_ble_eq_true rfl⟩ (Nat.le_of_ble_eq_true rfl) dX6_sailed_47 ?_
      have hf := Option.some.inj hf
      subst hf
      exact GG.iret C E dX6_sailed_50
    · have hf := if_f hf c5
      refine GG.aload_n C dX6_sailed_35 0 rfl ?_
      refine GG.gm33 C rfl dX6_sailed_36 ?_
      refine GG.iload_n C dX6_sailed_39 1 rfl ?_
      obtain ⟨v7, hv7, hf⟩ := obd_some hf
      refine GG.mi C rfl hv7 dX6_sailed_40 ?_
      refine GG.goto C (tgt := 50) dX6_sailed_41 (by decide) ?_
      have hf := Option.some.inj hf
      subst hf
      exact GG.iret C E dX6_sailed_50
  · have hf := if_t hf c4
    refine GG.aload_n C dX6_sailed_22 0 rfl ?_
    refine GG.iconst C dX6_sailed_23 ic_5 ?_
    obtain ⟨p8, hp8, hf⟩ := obd_some hf
    refine GG.c_X6_299 C rfl (gX6_refuse hp8) ⟨Nat.le_of_ble_eq_true rfl, Nat.le_of_ble_eq_true rfl⟩ ⟨Nat.le_of_ble_eq_true rfl, Nat.le_of_ble_eq_true rfl⟩ (Nat.le_of_ble_eq_true rfl) dX6_sailed_24 ?_
    have hf := Option.some.inj hf
    subst hf
    exact GG.iret C E dX6_sailed_27
theorem gX6_agreed_179 {K : gK} {X : gX} {M : XS} (C : gC K X cX6_agreed 7 yX6_agreed (some Jvm.ClassFile.FieldType.int) rX6_agreed)  {o : (Int32 × MS)} (E : gE K X (some (.int o.1)) M (some o.2) rX6_agreed.cells rX6_agreed.slots) {k94 : MS → Int32 → Int32 → Int32 → Int32 → Option (Int32 × MS)} (hk94 : ∀ (S : MS) (a1 : Int32) (a2 : Int32) (a3 : Int32) (a4 : Int32), k94 S a1 a2 a3 a4 = some o → GG K X 7 0 0 M (some S) 94 [(0, .ref (kh K)), (1, .int a1), (2, .int a2), (3, .int a3), (4, .int a4)] []) :
    ∀ (n : Nat) (S : MS) (a1 : Int32) (a2 : Int32) (a3 : Int32) (a4 : Int32) (a6 : Int32), fX6_agreed_179 k94 n S a1 a2 a3 a4 a6 = some o → GG K X 7 0 0 M (some S) 179 [(0, .ref (kh K)), (1, .int a1), (2, .int a2), (3, .int a3), (4, .int a4), (6, .int a6)] [] := by
  intro n
  induction n with
  | zero => intro S a1 a2 a3 a4 a6 hf; cases hf
  | succ n ih =>
    intro S a1 a2 a3 a4 a6 hf
    rw [fX6_agreed_179] at hf
    refine GG.iload C dX6_agreed_179 5 rfl ?_
    refine GG.iconst C dX6_agreed_181 ic_4 ?_
    refine GG.icmp_ge C (tgt := 208) dX6_agreed_182 (by decide) (fun c26 => ?_) (fun c26 => ?_)
    · have hf := if_t hf c26
      refine GG.iinc C (v := (a4 + (nI 1))) (lv' := [(4, .int (a4 + (nI 1))), (0, .ref (kh K)), (1, .int a1), (2, .int a2), (3, .int a3), (6, .int a6)]) dX6_agreed_208 4 rfl (congrArg (a4 + ·) ic_1) (by decide) rfl ?_
      refine GG.goto C (tgt := 94) dX6_agreed_211 (by decide) ?_
      refine GG.sub [1, 2, 3, 4, 0] rfl ?_
      exact hk94 _ _ _ _ _ hf
    · have hf := if_f hf c26
      refine GG.aload_n C dX6_agreed_185 0 rfl ?_
      refine GG.gm20 C rfl dX6_agreed_186 ?_
      refine GG.bipush C dX6_agreed_189 bp_114 ?_
      refine GG.iload C dX6_agreed_191 5 rfl ?_
      refine GG.iadd C dX6_agreed_193 ?_
      refine GG.aload_n C dX6_agreed_194 0 rfl ?_
      refine GG.gm34 C rfl dX6_agreed_195 ?_
      refine GG.iload C dX6_agreed_198 5 rfl ?_
      obtain ⟨v27, hv27, hf⟩ := obd_some hf
      refine GG.mi C rfl hv27 dX6_agreed_200 ?_
      obtain ⟨S28, hS28, hf⟩ := obd_some hf
      refine GG.mis C rfl hS28 dX6_agreed_201 ?_
      refine GG.iinc C (v := (a6 + (nI 1))) (lv' := [(6, .int (a6 + (nI 1))), (0, .ref (kh K)), (1, .int a1), (2, .int a2), (3, .int a3), (4, .int a4)]) dX6_agreed_202 5 rfl (congrArg (a6 + ·) ic_1) (by decide) rfl ?_
      refine GG.goto C (tgt := 179) dX6_agreed_205 (by decide) ?_
      refine GG.sub [1, 2, 3, 4, 5, 0] rfl ?_
      exact ih _ _ _ _ _ _ hf
theorem gX6_agreed_114 {K : gK} {X : gX} {M : XS} (C : gC K X cX6_agreed 7 yX6_agreed (some Jvm.ClassFile.FieldType.int) rX6_agreed)  {o : (Int32 × MS)} (E : gE K X (some (.int o.1)) M (some o.2) rX6_agreed.cells rX6_agreed.slots) {k94 : MS → Int32 → Int32 → Int32 → Int32 → Option (Int32 × MS)} (hk94 : ∀ (S : MS) (a1 : Int32) (a2 : Int32) (a3 : Int32) (a4 : Int32), k94 S a1 a2 a3 a4 = some o → GG K X 7 0 0 M (some S) 94 [(0, .ref (kh K)), (1, .int a1), (2, .int a2), (3, .int a3), (4, .int a4)] []) :
    ∀ (n : Nat) (S : MS) (a1 : Int32) (a2 : Int32) (a3 : Int32) (a4 : Int32) (a5 : Int32) (a6 : Int32), fX6_agreed_114 k94 n S a1 a2 a3 a4 a5 a6 = some o → GG K X 7 0 0 M (some S) 114 [(0, .ref (kh K)), (1, .int a1), (2, .int a2), (3, .int a3), (4, .int a4), (5, .int a5), (6, .int a6)] [] := by
  intro n
  induction n with
  | zero => intro S a1 a2 a3 a4 a5 a6 hf; cases hf
  | succ n ih =>
    intro S a1 a2 a3 a4 a5 a6 hf
    rw [fX6_agreed_114] at hf
    refine GG.iload C dX6_agreed_114 6 rfl ?_
    refine GG.aload_n C dX6_agreed_116 0 rfl ?_
    refine GG.gm20 C rfl dX6_agreed_117 ?_
    refine GG.iconst C dX6_agreed_120 ic_1 ?_
    obtain ⟨v17, hv17, hf⟩ := obd_some hf
    refine GG.mi C rfl hv17 dX6_agreed_121 ?_
    refine GG.icmp_ge C (tgt := 163) dX6_agreed_122 (by decide) (fun c18 => ?_) (fun c18 => ?_)
    · have hf := if_t hf c18
      refine GG.iload_n C dX6_agreed_163 3 rfl ?_
      refine GG.iload C dX6_agreed_164 5 rfl ?_
      refine GG.if_eq C (tgt := 173) dX6_agreed_166 (by decide) (fun c19 => ?_) (fun c19 => ?_)
      · have hf := if_t hf c19
        refine GG.iconst C dX6_agreed_173 ic_0 ?_
        refine GG.iadd C dX6_agreed_174 ?_
        refine GG.topi fun x20 hx20 => ?_
        have hf := ltb_s hx20 hf
        refine GG.istore_n C (lv' := [(3, .int x20), (0, .ref (kh K)), (1, .int a1), (2, .int a2), (4, .int a4), (5, .int a5), (6, .int a6)]) dX6_agreed_175 (by decide) rfl ?_
        refine GG.iconst C dX6_agreed_176 ic_0 ?_
        refine GG.istore C (lv' := [(6, .int (nI 0)), (3, .int x20), (0, .ref (kh K)), (1, .int a1), (2, .int a2), (4, .int a4), (5, .int a5)]) dX6_agreed_177 (by decide) rfl ?_
        refine GG.sub [2, 3, 4, 1, 5, 0] rfl ?_
        exact gX6_agreed_179 C E (hk94 := hk94) FU _ _ _ _ _ _ hf
      · have hf := if_f hf c19
        refine GG.iconst C dX6_agreed_169 ic_1 ?_
        refine GG.goto C (tgt := 174) dX6_agreed_170 (by decide) ?_
        refine GG.iadd C dX6_agreed_174 ?_
        refine GG.topi fun x21 hx21 => ?_
        have hf := ltb_s hx21 hf
        refine GG.istore_n C (lv' := [(3, .int x21), (0, .ref (kh K)), (1, .int a1), (2, .int a2), (4, .int a4), (5, .int a5), (6, .int a6)]) dX6_agreed_175 (by decide) rfl ?_
        refine GG.iconst C dX6_agreed_176 ic_0 ?_
        refine GG.istore C (lv' := [(6, .int (nI 0)), (3, .int x21), (0, .ref (kh K)), (1, .int a1), (2, .int a2), (4, .int a4), (5, .int a5)]) dX6_agreed_177 (by decide) rfl ?_
        refine GG.sub [2, 3, 4, 1, 5, 0] rfl ?_
        exact gX6_agreed_179 C E (hk94 := hk94) FU _ _ _ _ _ _ hf
    · have hf := if_f hf c18
      refine GG.iload C dX6_agreed_125 5 rfl ?_
      refine GG.if_eq C (tgt := 154) dX6_agreed_127 (by decide) (fun c22 => ?_) (fun c22 => ?_)
      · have hf := if_t hf c22
        refine GG.iconst C dX6_agreed_154 ic_0 ?_
        refine GG.istore C (lv' := [(5, .int (nI 0)), (0, .ref (kh K)), (1, .int a1), (2, .int a2), (3, .int a3), (4, .int a4), (6, .int a6)]) dX6_agreed_155 (by decide) rfl ?_
        refine GG.iinc C (v := (a6 + (nI 1))) (lv' := [(6, .int (a6 + (nI 1))), (5, .int (nI 0)), (0, .ref (kh K)), (1, .int a1), (2, .int a2), (3, .int a3), (4, .int a4)]) dX6_agreed_157 6 rfl (congrArg (a6 + ·) ic_1) (by decide) rfl ?_
        refine GG.goto C (tgt := 114) dX6_agreed_160 (by decide) ?_
        refine GG.sub [2, 3, 4, 5, 6, 1, 0] rfl ?_
        exact ih _ _ _ _ _ _ _ hf
      · have hf := if_f hf c22
        refine GG.aload_n C dX6_agreed_130 0 rfl ?_
        refine GG.gm20 C rfl dX6_agreed_131 ?_
        refine GG.bipush C dX6_agreed_134 bp_114 ?_
        refine GG.iload C dX6_agreed_136 6 rfl ?_
        refine GG.iadd C dX6_agreed_138 ?_
        obtain ⟨v23, hv23, hf⟩ := obd_some hf
        refine GG.mi C rfl hv23 dX6_agreed_139 ?_
        refine GG.aload_n C dX6_agreed_140 0 rfl ?_
        refine GG.gm20 C rfl dX6_agreed_141 ?_
        refine GG.bipush C dX6_agreed_144 bp_114 ?_
        obtain ⟨v24, hv24, hf⟩ := obd_some hf
        refine GG.mi C rfl hv24 dX6_agreed_146 ?_
        refine GG.icmp_ne C (tgt := 154) dX6_agreed_147 (by decide) (fun c25 => ?_) (fun c25 => ?_)
        · have hf := if_f hf c25
          refine GG.iconst C dX6_agreed_154 ic_0 ?_
          refine GG.istore C (lv' := [(5, .int (nI 0)), (0, .ref (kh K)), (1, .int a1), (2, .int a2), (3, .int a3), (4, .int a4), (6, .int a6)]) dX6_agreed_155 (by decide) rfl ?_
          refine GG.iinc C (v := (a6 + (nI 1))) (lv' := [(6, .int (a6 + (nI 1))), (5, .int (nI 0)), (0, .ref (kh K)), (1, .int a1), (2, .int a2), (3, .int a3), (4, .int a4)]) dX6_agreed_157 6 rfl (congrArg (a6 + ·) ic_1) (by decide) rfl ?_
          refine GG.goto C (tgt := 114) dX6_agreed_160 (by decide) ?_
          refine GG.sub [2, 3, 4, 5, 6, 1, 0] rfl ?_
          exact ih _ _ _ _ _ _ _ hf
        · have hf := if_t hf c25
          refine GG.iconst C dX6_agreed_150 ic_1 ?_
          refine GG.goto C (tgt := 155) dX6_agreed_151 (by decide) ?_
          refine GG.istore C (lv' := [(5, .int (nI 1)), (0, .ref (kh K)), (1, .int a1), (2, .int a2), (3, .int a3), (4, .int a4), (6, .int a6)]) dX6_agreed_155 (by decide) rfl ?_
          refine GG.iinc C (v := (a6 + (nI 1))) (lv' := [(6, .int (a6 + (nI 1))), (5, .int (nI 1)), (0, .ref (kh K)), (1, .int a1), (2, .int a2), (3, .int a3), (4, .int a4)]) dX6_agreed_157 6 rfl (congrArg (a6 + ·) ic_1) (by decide) rfl ?_
          refine GG.goto C (tgt := 114) dX6_agreed_160 (by decide) ?_
          refine GG.sub [2, 3, 4, 5, 6, 1, 0] rfl ?_
          exact ih _ _ _ _ _ _ _ hf
theorem gX6_agreed_94 {K : gK} {X : gX} {M : XS} (C : gC K X cX6_agreed 7 yX6_agreed (some Jvm.ClassFile.FieldType.int) rX6_agreed)  {o : (Int32 × MS)} (E : gE K X (some (.int o.1)) M (some o.2) rX6_agreed.cells rX6_agreed.slots)   :
    ∀ (n : Nat) (S : MS) (a1 : Int32) (a2 : Int32) (a3 : Int32) (a4 : Int32), fX6_agreed_94  n S a1 a2 a3 a4 = some o → GG K X 7 0 0 M (some S) 94 [(0, .ref (kh K)), (1, .int a1), (2, .int a2), (3, .int a3), (4, .int a4)] [] := by
  intro n
  induction n with
  | zero => intro S a1 a2 a3 a4 hf; cases hf
  | succ n ih =>
    intro S a1 a2 a3 a4 hf
    rw [fX6_agreed_94] at hf
    refine GG.iload C dX6_agreed_94 4 rfl ?_
    refine GG.iload_n C dX6_agreed_96 2 rfl ?_
    refine GG.icmp_ge C (tgt := 214) dX6_agreed_97 (by decide) (fun c15 => ?_) (fun c15 => ?_)
    · have hf := if_t hf c15
      refine GG.iload_n C dX6_agreed_214 3 rfl ?_
      have hf := Option.some.inj hf
      subst hf
      exact GG.iret C E dX6_agreed_215
    · have hf := if_f hf c15
      refine GG.aload_n C dX6_agreed_100 0 rfl ?_
      refine GG.iload_n C dX6_agreed_101 1 rfl ?_
      refine GG.iload C dX6_agreed_102 4 rfl ?_
      refine GG.iadd C dX6_agreed_104 ?_
      obtain ⟨p16, hp16, hf⟩ := obd_some hf
      refine GG.c_X6_488 C rfl (gX6_run hp16) ⟨Nat.le_of_ble_eq_true rfl, Nat.le_of_ble_eq_true rfl⟩ ⟨Nat.le_of_ble_eq_true rfl, Nat.le_of_ble_eq_true rfl⟩ (Nat.le_of_ble_eq_true rfl) dX6_agreed_105 ?_
      refine GG.iconst C dX6_agreed_108 ic_1 ?_
      refine GG.istore C (lv' := [(5, .int (nI 1)), (0, .ref (kh K)), (1, .int a1), (2, .int a2), (3, .int a3), (4, .int a4)]) dX6_agreed_109 (by decide) rfl ?_
      refine GG.iconst C dX6_agreed_111 ic_1 ?_
      refine GG.istore C (lv' := [(6, .int (nI 1)), (5, .int (nI 1)), (0, .ref (kh K)), (1, .int a1), (2, .int a2), (3, .int a3), (4, .int a4)]) dX6_agreed_112 (by decide) rfl ?_
      refine GG.sub [2, 3, 4, 5, 6, 1, 0] rfl ?_
      exact gX6_agreed_114 C E (hk94 := ih) FU _ _ _ _ _ _ _ hf
theorem gX6_agreed_63 {K : gK} {X : gX} {M : XS} (C : gC K X cX6_agreed 7 yX6_agreed (some Jvm.ClassFile.FieldType.int) rX6_agreed)  {o : (Int32 × MS)} (E : gE K X (some (.int o.1)) M (some o.2) rX6_agreed.cells rX6_agreed.slots)   :
    ∀ (n : Nat) (S : MS) (a1 : Int32) (a2 : Int32) (a3 : Int32), fX6_agreed_63  n S a1 a2 a3 = some o → GG K X 7 0 0 M (some S) 63 [(0, .ref (kh K)), (1, .int a1), (2, .int a2), (3, .int a3)] [] := by
  intro n
  induction n with
  | zero => intro S a1 a2 a3 hf; cases hf
  | succ n ih =>
    intro S a1 a2 a3 hf
    rw [fX6_agreed_63] at hf
    refine GG.iload_n C dX6_agreed_63 3 rfl ?_
    refine GG.iconst C dX6_agreed_64 ic_4 ?_
    refine GG.icmp_ge C (tgt := 89) dX6_agreed_65 (by decide) (fun c12 => ?_) (fun c12 => ?_)
    · have hf := if_t hf c12
      refine GG.iconst C dX6_agreed_89 ic_0 ?_
      refine GG.istore_n C (lv' := [(3, .int (nI 0)), (0, .ref (kh K)), (1, .int a1), (2, .int a2)]) dX6_agreed_90 (by decide) rfl ?_
      refine GG.iconst C dX6_agreed_91 ic_0 ?_
      refine GG.istore C (lv' := [(4, .int (nI 0)), (3, .int (nI 0)), (0, .ref (kh K)), (1, .int a1), (2, .int a2)]) dX6_agreed_92 (by decide) rfl ?_
      refine GG.sub [2, 3, 4, 1, 0] rfl ?_
      exact gX6_agreed_94 C E  FU _ _ _ _ _ hf
    · have hf := if_f hf c12
      refine GG.aload_n C dX6_agreed_68 0 rfl ?_
      refine GG.gm34 C rfl dX6_agreed_69 ?_
      refine GG.iload_n C dX6_agreed_72 3 rfl ?_
      refine GG.aload_n C dX6_agreed_73 0 rfl ?_
      refine GG.gm20 C rfl dX6_agreed_74 ?_
      refine GG.bipush C dX6_agreed_77 bp_114 ?_
      refine GG.iload_n C dX6_agreed_79 3 rfl ?_
      refine GG.iadd C dX6_agreed_80 ?_
      obtain ⟨v13, hv13, hf⟩ := obd_some hf
      refine GG.mi C rfl hv13 dX6_agreed_81 ?_
      obtain ⟨S14, hS14, hf⟩ := obd_some hf
      refine GG.mis C rfl hS14 dX6_agreed_82 ?_
      refine GG.iinc C (v := (a3 + (nI 1))) (lv' := [(3, .int (a3 + (nI 1))), (0, .ref (kh K)), (1, .int a1), (2, .int a2)]) dX6_agreed_83 3 rfl (congrArg (a3 + ·) ic_1) (by decide) rfl ?_
      refine GG.goto C (tgt := 63) dX6_agreed_86 (by decide) ?_
      refine GG.sub [1, 2, 3, 0] rfl ?_
      exact ih _ _ _ _ hf
theorem gX6_agreed {K : gK} {M : XS}  {S : MS} {a1 : Int32} {a2 : Int32} {o : (Int32 × MS)} (hf : fX6_agreed S a1 a2 = some o) : gMet K yX6_agreed cX6_agreed 7 (some Jvm.ClassFile.FieldType.int) rX6_agreed [(.ref (kh K)), (.int a1), (.int a2)] M (some S) (some (.int o.1)) M (some o.2) := by
  refine gMet.of pn_X6 (Nat.le_of_ble_eq_true rfl) fun X C E => ?_
  unfold fX6_agreed at hf
  show GG K X 7 0 0 M (some S) 0 [(0, .ref (kh K)), (1, .int a1), (2, .int a2)] []
  refine GG.aload_n C dX6_agreed_0 0 rfl ?_
  refine GG.iconst C dX6_agreed_1 ic_0 ?_
  refine GG.pm1 C rfl dX6_agreed_2 ?_
  refine GG.topS fun S1 hS1 => ?_
  have hf := ltb_s hS1 hf
  refine GG.aload_n C dX6_agreed_5 0 rfl ?_
  refine GG.iconst C dX6_agreed_6 ic_0 ?_
  refine GG.pm0 C rfl dX6_agreed_7 ?_
  refine GG.topS fun S2 hS2 => ?_
  have hf := ltb_s hS2 hf
  refine GG.iload_n C dX6_agreed_10 2 rfl ?_
  refine GG.i2l C dX6_agreed_11 ?_
  refine GG.lconst C dX6_agreed_12 lc_1 ?_
  refine GG.ldc2 C (v := (lN 30)) q2183 dX6_agreed_13 ?_
  obtain ⟨v3, hv3, hf⟩ := obd_some hf
  refine GG.c_X6_110 C rfl (gX6_isIn hv3) ⟨Nat.le_of_ble_eq_true rfl, Nat.le_of_ble_eq_true rfl⟩ ⟨Nat.le_of_ble_eq_true rfl, Nat.le_of_ble_eq_true rfl⟩ (Nat.le_of_ble_eq_true rfl) dX6_agreed_16 ?_
  refine GG.if_eq C (tgt := 37) dX6_agreed_19 (by decide) (fun c4 => ?_) (fun c4 => ?_)
  · have hf := if_t hf c4
    refine GG.aload_n C dX6_agreed_37 0 rfl ?_
    refine GG.iconst C dX6_agreed_38 ic_5 ?_
    obtain ⟨p5, hp5, hf⟩ := obd_some hf
    refine GG.c_X6_299 C rfl (gX6_refuse hp5) ⟨Nat.le_of_ble_eq_true rfl, Nat.le_of_ble_eq_true rfl⟩ ⟨Nat.le_of_ble_eq_true rfl, Nat.le_of_ble_eq_true rfl⟩ (Nat.le_of_ble_eq_true rfl) dX6_agreed_39 ?_
    have hf := Option.some.inj hf
    subst hf
    exact GG.iret C E dX6_agreed_42
  · have hf := if_f hf c4
    refine GG.iload_n C dX6_agreed_22 1 rfl ?_
    refine GG.i2l C dX6_agreed_23 ?_
    refine GG.lconst C dX6_agreed_24 lc_0 ?_
    refine GG.sipush C dX6_agreed_25 sp_10000 ?_
    refine GG.iload_n C dX6_agreed_28 2 rfl ?_
    refine GG.isub C dX6_agreed_29 ?_
    refine GG.i2l C dX6_agreed_30 ?_
    obtain ⟨v6, hv6, hf⟩ := obd_some hf
    refine GG.c_X6_110 C rfl (gX6_isIn hv6) ⟨Nat.le_of_ble_eq_true rfl, Nat.le_of_ble_eq_true rfl⟩ ⟨Nat.le_of_ble_eq_true rfl, Nat.le_of_ble_eq_true rfl⟩ (Nat.le_of_ble_eq_true rfl) dX6_agreed_31 ?_
    refine GG.if_ne C (tgt := 43) dX6_agreed_34 (by decide) (fun c7 => ?_) (fun c7 => ?_)
    · have hf := if_f hf c7
      refine GG.aload_n C dX6_agreed_43 0 rfl ?_
      refine GG.gm20 C rfl dX6_agreed_44 ?_
      refine GG.sipush C dX6_agreed_47 sp_135 ?_
      obtain ⟨v8, hv8, hf⟩ := obd_some hf
      refine GG.mi C rfl hv8 dX6_agreed_50 ?_
      refine GG.if_ne C (tgt := 61) dX6_agreed_51 (by decide) (fun c9 => ?_) (fun c9 => ?_)
      · have hf := if_f hf c9
        refine GG.iconst C dX6_agreed_61 ic_0 ?_
        refine GG.istore_n C (lv' := [(3, .int (nI 0)), (0, .ref (kh K)), (1, .int a1), (2, .int a2)]) dX6_agreed_62 (by decide) rfl ?_
        refine GG.sub [1, 2, 3, 0] rfl ?_
        exact gX6_agreed_63 C E  FU _ _ _ _ hf
      · have hf := if_t hf c9
        refine GG.aload_n C dX6_agreed_54 0 rfl ?_
        refine GG.bipush C dX6_agreed_55 bp_8 ?_
        obtain ⟨p10, hp10, hf⟩ := obd_some hf
        refine GG.c_X6_299 C rfl (gX6_refuse hp10) ⟨Nat.le_of_ble_eq_true rfl, Nat.le_of_ble_eq_true rfl⟩ ⟨Nat.le_of_ble_eq_true rfl, Nat.le_of_ble_eq_true rfl⟩ (Nat.le_of_ble_eq_true rfl) dX6_agreed_57 ?_
        have hf := Option.some.inj hf
        subst hf
        exact GG.iret C E dX6_agreed_60
    · have hf := if_t hf c7
      refine GG.aload_n C dX6_agreed_37 0 rfl ?_
      refine GG.iconst C dX6_agreed_38 ic_5 ?_
      obtain ⟨p11, hp11, hf⟩ := obd_some hf
      refine GG.c_X6_299 C rfl (gX6_refuse hp11) ⟨Nat.le_of_ble_eq_true rfl, Nat.le_of_ble_eq_true rfl⟩ ⟨Nat.le_of_ble_eq_true rfl, Nat.le_of_ble_eq_true rfl⟩ (Nat.le_of_ble_eq_true rfl) dX6_agreed_39 ?_
      have hf := Option.some.inj hf
      subst hf
      exact GG.iret C E dX6_agreed_42
theorem gX6_seal_141 {K : gK} {X : gX} {M : XS} (C : gC K X cX6_seal 8 yX6_seal (some Jvm.ClassFile.FieldType.int) rX6_seal)  {o : (Int32 × MS)} (E : gE K X (some (.int o.1)) M (some o.2) rX6_seal.cells rX6_seal.slots)   :
    ∀ (n : Nat) (S : MS) (a1 : Int32) (a2 : Int32) (a4 : Int64) (a6 : Int32) (a7 : Int32), fX6_seal_141  n S a1 a2 a4 a6 a7 = some o → GG K X 8 0 0 M (some S) 141 [(0, .ref (kh K)), (1, .int a1), (2, .int a2), (4, .long a4), (6, .int a6), (7, .int a7)] [] := by
  intro n
  induction n with
  | zero => intro S a1 a2 a4 a6 a7 hf; cases hf
  | succ n ih =>
    intro S a1 a2 a4 a6 a7 hf
    rw [fX6_seal_141] at hf
    refine GG.iload C dX6_seal_141 5 rfl ?_
    refine GG.aload_n C dX6_seal_143 0 rfl ?_
    refine GG.gm20 C rfl dX6_seal_144 ?_
    refine GG.iconst C dX6_seal_147 ic_0 ?_
    obtain ⟨v25, hv25, hf⟩ := obd_some hf
    refine GG.mi C rfl hv25 dX6_seal_148 ?_
    refine GG.icmp_ge C (tgt := 222) dX6_seal_149 (by decide) (fun c26 => ?_) (fun c26 => ?_)
    · have hf := if_t hf c26
      refine GG.aload_n C dX6_seal_222 0 rfl ?_
      refine GG.gm6 C rfl dX6_seal_223 ?_
      refine GG.bipush C dX6_seal_226 bp_60 ?_
      refine GG.iload_n C dX6_seal_228 1 rfl ?_
      refine GG.imul C dX6_seal_229 ?_
      refine GG.iload C dX6_seal_230 4 rfl ?_
      refine GG.iadd C dX6_seal_232 ?_
      refine GG.lload C dX6_seal_233 3 rfl ?_
      refine GG.ldc2 C (v := (lN 251)) q2189 dX6_seal_235 ?_
      refine GG.lrem C dX6_seal_238 (by decide) ?_
      obtain ⟨S27, hS27, hf⟩ := obd_some hf
      refine GG.mls C hS27 dX6_seal_239 ?_
      refine GG.iload C dX6_seal_240 4 rfl ?_
      refine GG.iconst C dX6_seal_242 ic_1 ?_
      refine GG.iadd C dX6_seal_243 ?_
      have hf := Option.some.inj hf
      subst hf
      exact GG.iret C E dX6_seal_244
    · have hf := if_f hf c26
      refine GG.iload_n C dX6_seal_152 2 rfl ?_
      refine GG.iload C dX6_seal_153 5 rfl ?_
      obtain ⟨v28, hv28, hf⟩ := obd_some hf
      refine GG.c_X6_302 C rfl (gX6_hasIn hv28) ⟨Nat.le_of_ble_eq_true rfl, Nat.le_of_ble_eq_true rfl⟩ ⟨Nat.le_of_ble_eq_true rfl, Nat.le_of_ble_eq_true rfl⟩ (Nat.le_of_ble_eq_true rfl) dX6_seal_155 ?_
      refine GG.if_ne C (tgt := 164) dX6_seal_158 (by decide) (fun c29 => ?_) (fun c29 => ?_)
      · have hf := if_f hf c29
        refine GG.aload_n C dX6_seal_164 0 rfl ?_
        refine GG.gm6 C rfl dX6_seal_165 ?_
        refine GG.bipush C dX6_seal_168 bp_60 ?_
        refine GG.iload_n C dX6_seal_170 1 rfl ?_
        refine GG.imul C dX6_seal_171 ?_
        refine GG.iload C dX6_seal_172 4 rfl ?_
        refine GG.iadd C dX6_seal_174 ?_
        refine GG.aload_n C dX6_seal_175 0 rfl ?_
        refine GG.iconst C dX6_seal_176 ic_0 ?_
        refine GG.iload C dX6_seal_177 5 rfl ?_
        obtain ⟨v30, hv30, hf⟩ := obd_some hf
        refine GG.c_X6_239 C rfl (gX6_kind hv30) ⟨Nat.le_of_ble_eq_true rfl, Nat.le_of_ble_eq_true rfl⟩ ⟨Nat.le_of_ble_eq_true rfl, Nat.le_of_ble_eq_true rfl⟩ (Nat.le_of_ble_eq_true rfl) dX6_seal_179 ?_
        refine GG.i2l C dX6_seal_182 ?_
        refine GG.ldc2 C (v := (lN 5)) q2188 dX6_seal_183 ?_
        refine GG.iload C dX6_seal_186 5 rfl ?_
        refine GG.i2l C dX6_seal_188 ?_
        refine GG.lmul C dX6_seal_189 ?_
        refine GG.ladd C dX6_seal_190 ?_
        obtain ⟨S31, hS31, hf⟩ := obd_some hf
        refine GG.mls C hS31 dX6_seal_191 ?_
        refine GG.lload C dX6_seal_192 3 rfl ?_
        refine GG.aload_n C dX6_seal_194 0 rfl ?_
        refine GG.iconst C dX6_seal_195 ic_0 ?_
        refine GG.iload C dX6_seal_196 5 rfl ?_
        obtain ⟨v32, hv32, hf⟩ := obd_some hf
        refine GG.c_X6_239 C rfl (gX6_kind hv32) ⟨Nat.le_of_ble_eq_true rfl, Nat.le_of_ble_eq_true rfl⟩ ⟨Nat.le_of_ble_eq_true rfl, Nat.le_of_ble_eq_true rfl⟩ (Nat.le_of_ble_eq_true rfl) dX6_seal_198 ?_
        refine GG.i2l C dX6_seal_201 ?_
        refine GG.ldc2 C (v := (lN 5)) q2188 dX6_seal_202 ?_
        refine GG.iload C dX6_seal_205 5 rfl ?_
        refine GG.i2l C dX6_seal_207 ?_
        refine GG.lmul C dX6_seal_208 ?_
        refine GG.ladd C dX6_seal_209 ?_
        refine GG.ladd C dX6_seal_210 ?_
        refine GG.topl fun x33 hx33 => ?_
        have hf := ltb_s hx33 hf
        refine GG.lstore C (lv' := [(4, .long x33), (0, .ref (kh K)), (1, .int a1), (2, .int a2), (6, .int a6), (7, .int a7)]) dX6_seal_211 (by decide) rfl ?_
        refine GG.iinc C (v := (a6 + (nI 1))) (lv' := [(6, .int (a6 + (nI 1))), (4, .long x33), (0, .ref (kh K)), (1, .int a1), (2, .int a2), (7, .int a7)]) dX6_seal_213 4 rfl (congrArg (a6 + ·) ic_1) (by decide) rfl ?_
        refine GG.iinc C (v := (a7 + (nI 1))) (lv' := [(7, .int (a7 + (nI 1))), (6, .int (a6 + (nI 1))), (4, .long x33), (0, .ref (kh K)), (1, .int a1), (2, .int a2)]) dX6_seal_216 5 rfl (congrArg (a7 + ·) ic_1) (by decide) rfl ?_
        refine GG.goto C (tgt := 141) dX6_seal_219 (by decide) ?_
        refine GG.sub [3, 4, 5, 2, 1, 0] rfl ?_
        exact ih _ _ _ _ _ _ hf
      · have hf := if_t hf c29
        refine GG.goto C (tgt := 216) dX6_seal_161 (by decide) ?_
        refine GG.iinc C (v := (a7 + (nI 1))) (lv' := [(7, .int (a7 + (nI 1))), (0, .ref (kh K)), (1, .int a1), (2, .int a2), (4, .long a4), (6, .int a6)]) dX6_seal_216 5 rfl (congrArg (a7 + ·) ic_1) (by decide) rfl ?_
        refine GG.goto C (tgt := 141) dX6_seal_219 (by decide) ?_
        refine GG.sub [1, 2, 3, 4, 5, 0] rfl ?_
        exact ih _ _ _ _ _ _ hf
theorem gX6_seal {K : gK} {M : XS}  {S : MS} {a1 : Int32} {a2 : Int32} {o : (Int32 × MS)} (hf : fX6_seal S a1 a2 = some o) : gMet K yX6_seal cX6_seal 8 (some Jvm.ClassFile.FieldType.int) rX6_seal [(.ref (kh K)), (.int a1), (.int a2)] M (some S) (some (.int o.1)) M (some o.2) := by
  refine gMet.of pn_X6 (Nat.le_of_ble_eq_true rfl) fun X C E => ?_
  unfold fX6_seal at hf
  show GG K X 8 0 0 M (some S) 0 [(0, .ref (kh K)), (1, .int a1), (2, .int a2)] []
  refine GG.aload_n C dX6_seal_0 0 rfl ?_
  refine GG.iconst C dX6_seal_1 ic_0 ?_
  refine GG.pm1 C rfl dX6_seal_2 ?_
  refine GG.topS fun S1 hS1 => ?_
  have hf := ltb_s hS1 hf
  refine GG.aload_n C dX6_seal_5 0 rfl ?_
  refine GG.iconst C dX6_seal_6 ic_0 ?_
  refine GG.pm0 C rfl dX6_seal_7 ?_
  refine GG.topS fun S2 hS2 => ?_
  have hf := ltb_s hS2 hf
  refine GG.aload_n C dX6_seal_10 0 rfl ?_
  refine GG.iload_n C dX6_seal_11 1 rfl ?_
  obtain ⟨v3, hv3, hf⟩ := obd_some hf
  refine GG.c_X6_388 C rfl (gX6_isTray hv3) ⟨Nat.le_of_ble_eq_true rfl, Nat.le_of_ble_eq_true rfl⟩ ⟨Nat.le_of_ble_eq_true rfl, Nat.le_of_ble_eq_true rfl⟩ (Nat.le_of_ble_eq_true rfl) dX6_seal_12 ?_
  refine GG.if_ne C (tgt := 24) dX6_seal_15 (by decide) (fun c4 => ?_) (fun c4 => ?_)
  · have hf := if_f hf c4
    refine GG.aload_n C dX6_seal_24 0 rfl ?_
    refine GG.iload_n C dX6_seal_25 2 rfl ?_
    obtain ⟨v5, hv5, hf⟩ := obd_some hf
    refine GG.c_X6_319 C rfl (gX6_isSet hv5) ⟨Nat.le_of_ble_eq_true rfl, Nat.le_of_ble_eq_true rfl⟩ ⟨Nat.le_of_ble_eq_true rfl, Nat.le_of_ble_eq_true rfl⟩ (Nat.le_of_ble_eq_true rfl) dX6_seal_26 ?_
    refine GG.if_ne C (tgt := 38) dX6_seal_29 (by decide) (fun c6 => ?_) (fun c6 => ?_)
    · have hf := if_f hf c6
      refine GG.aload_n C dX6_seal_38 0 rfl ?_
      refine GG.gm5 C rfl dX6_seal_39 ?_
      refine GG.iload_n C dX6_seal_42 1 rfl ?_
      obtain ⟨v7, hv7, hf⟩ := obd_some hf
      refine GG.mi C rfl hv7 dX6_seal_43 ?_
      refine GG.if_ge C (tgt := 53) dX6_seal_44 (by decide) (fun c8 => ?_) (fun c8 => ?_)
      · have hf := if_t hf c8
        refine GG.iload_n C dX6_seal_53 2 rfl ?_
        obtain ⟨v9, hv9, hf⟩ := obd_some hf
        refine GG.c_X6_325 C rfl (gX6_bits hv9) ⟨Nat.le_of_ble_eq_true rfl, Nat.le_of_ble_eq_true rfl⟩ ⟨Nat.le_of_ble_eq_true rfl, Nat.le_of_ble_eq_true rfl⟩ (Nat.le_of_ble_eq_true rfl) dX6_seal_54 ?_
        refine GG.istore_n C (lv' := [(3, .int v9), (0, .ref (kh K)), (1, .int a1), (2, .int a2)]) dX6_seal_57 (by decide) rfl ?_
        refine GG.aload_n C dX6_seal_58 1 rfl ?_
        refine GG.gm5 C rfl dX6_seal_59 ?_
        refine GG.iload_n C dX6_seal_62 2 rfl ?_
        obtain ⟨v10, hv10, hf⟩ := obd_some hf
        refine GG.mi C rfl hv10 dX6_seal_63 ?_
        refine GG.iload_n C dX6_seal_64 0 rfl ?_
        refine GG.iconst C dX6_seal_65 ic_3 ?_
        refine GG.iadd C dX6_seal_66 ?_
        refine GG.icmp_ge C (tgt := 76) dX6_seal_67 (by decide) (fun c11 => ?_) (fun c11 => ?_)
        · have hf := if_t hf c11
          refine GG.aload_n C dX6_seal_76 1 rfl ?_
          refine GG.gm4 C rfl dX6_seal_77 ?_
          refine GG.iload_n C dX6_seal_80 2 rfl ?_
          obtain ⟨v12, hv12, hf⟩ := obd_some hf
          refine GG.mi C rfl hv12 dX6_seal_81 ?_
          refine GG.if_ne C (tgt := 91) dX6_seal_82 (by decide) (fun c13 => ?_) (fun c13 => ?_)
          · have hf := if_f hf c13
            refine GG.aload_n C dX6_seal_91 1 rfl ?_
            refine GG.iload_n C dX6_seal_92 3 rfl ?_
            obtain ⟨v14, hv14, hf⟩ := obd_some hf
            refine GG.c_X6_322 C rfl (gX6_lackOf hv14) ⟨Nat.le_of_ble_eq_true rfl, Nat.le_of_ble_eq_true rfl⟩ ⟨Nat.le_of_ble_eq_true rfl, Nat.le_of_ble_eq_true rfl⟩ (Nat.le_of_ble_eq_true rfl) dX6_seal_93 ?_
            refine GG.if_eq C (tgt := 106) dX6_seal_96 (by decide) (fun c15 => ?_) (fun c15 => ?_)
            · have hf := if_t hf c15
              refine GG.aload_n C dX6_seal_106 1 rfl ?_
              refine GG.gm6 C rfl dX6_seal_107 ?_
              refine GG.bipush C dX6_seal_110 bp_60 ?_
              refine GG.iload_n C dX6_seal_112 2 rfl ?_
              refine GG.imul C dX6_seal_113 ?_
              refine GG.lconst C dX6_seal_114 lc_1 ?_
              obtain ⟨S16, hS16, hf⟩ := obd_some hf
              refine GG.mls C hS16 dX6_seal_115 ?_
              refine GG.aload_n C dX6_seal_116 1 rfl ?_
              refine GG.gm6 C rfl dX6_seal_117 ?_
              refine GG.bipush C dX6_seal_120 bp_60 ?_
              refine GG.iload_n C dX6_seal_122 2 rfl ?_
              refine GG.imul C dX6_seal_123 ?_
              refine GG.iconst C dX6_seal_124 ic_1 ?_
              refine GG.iadd C dX6_seal_125 ?_
              refine GG.iload_n C dX6_seal_126 0 rfl ?_
              refine GG.i2l C dX6_seal_127 ?_
              obtain ⟨S17, hS17, hf⟩ := obd_some hf
              refine GG.mls C hS17 dX6_seal_128 ?_
              refine GG.lconst C dX6_seal_129 lc_1 ?_
              refine GG.iload_n C dX6_seal_130 0 rfl ?_
              refine GG.i2l C dX6_seal_131 ?_
              refine GG.ladd C dX6_seal_132 ?_
              refine GG.topl fun x18 hx18 => ?_
              have hf := ltb_s hx18 hf
              refine GG.lstore C (lv' := [(4, .long x18), (3, .int v9), (0, .ref (kh K)), (1, .int a1), (2, .int a2)]) dX6_seal_133 (by decide) rfl ?_
              refine GG.iconst C dX6_seal_135 ic_2 ?_
              refine GG.istore C (lv' := [(6, .int (nI 2)), (4, .long x18), (3, .int v9), (0, .ref (kh K)), (1, .int a1), (2, .int a2)]) dX6_seal_136 (by decide) rfl ?_
              refine GG.iconst C dX6_seal_138 ic_0 ?_
              refine GG.istore C (lv' := [(7, .int (nI 0)), (6, .int (nI 2)), (4, .long x18), (3, .int v9), (0, .ref (kh K)), (1, .int a1), (2, .int a2)]) dX6_seal_139 (by decide) rfl ?_
              refine GG.sub [4, 5, 6, 2, 1, 0] rfl ?_
              exact gX6_seal_141 C E  FU _ _ _ _ _ _ hf
            · have hf := if_f hf c15
              refine GG.aload_n C dX6_seal_99 1 rfl ?_
              refine GG.bipush C dX6_seal_100 bp_9 ?_
              obtain ⟨p19, hp19, hf⟩ := obd_some hf
              refine GG.c_X6_299 C rfl (gX6_refuse hp19) ⟨Nat.le_of_ble_eq_true rfl, Nat.le_of_ble_eq_true rfl⟩ ⟨Nat.le_of_ble_eq_true rfl, Nat.le_of_ble_eq_true rfl⟩ (Nat.le_of_ble_eq_true rfl) dX6_seal_102 ?_
              have hf := Option.some.inj hf
              subst hf
              exact GG.iret C E dX6_seal_105
          · have hf := if_t hf c13
            refine GG.aload_n C dX6_seal_85 1 rfl ?_
            refine GG.iconst C dX6_seal_86 ic_5 ?_
            obtain ⟨p20, hp20, hf⟩ := obd_some hf
            refine GG.c_X6_299 C rfl (gX6_refuse hp20) ⟨Nat.le_of_ble_eq_true rfl, Nat.le_of_ble_eq_true rfl⟩ ⟨Nat.le_of_ble_eq_true rfl, Nat.le_of_ble_eq_true rfl⟩ (Nat.le_of_ble_eq_true rfl) dX6_seal_87 ?_
            have hf := Option.some.inj hf
            subst hf
            exact GG.iret C E dX6_seal_90
        · have hf := if_f hf c11
          refine GG.aload_n C dX6_seal_70 1 rfl ?_
          refine GG.iconst C dX6_seal_71 ic_4 ?_
          obtain ⟨p21, hp21, hf⟩ := obd_some hf
          refine GG.c_X6_299 C rfl (gX6_refuse hp21) ⟨Nat.le_of_ble_eq_true rfl, Nat.le_of_ble_eq_true rfl⟩ ⟨Nat.le_of_ble_eq_true rfl, Nat.le_of_ble_eq_true rfl⟩ (Nat.le_of_ble_eq_true rfl) dX6_seal_72 ?_
          have hf := Option.some.inj hf
          subst hf
          exact GG.iret C E dX6_seal_75
      · have hf := if_f hf c8
        refine GG.aload_n C dX6_seal_47 0 rfl ?_
        refine GG.iconst C dX6_seal_48 ic_3 ?_
        obtain ⟨p22, hp22, hf⟩ := obd_some hf
        refine GG.c_X6_299 C rfl (gX6_refuse hp22) ⟨Nat.le_of_ble_eq_true rfl, Nat.le_of_ble_eq_true rfl⟩ ⟨Nat.le_of_ble_eq_true rfl, Nat.le_of_ble_eq_true rfl⟩ (Nat.le_of_ble_eq_true rfl) dX6_seal_49 ?_
        have hf := Option.some.inj hf
        subst hf
        exact GG.iret C E dX6_seal_52
    · have hf := if_t hf c6
      refine GG.aload_n C dX6_seal_32 0 rfl ?_
      refine GG.iconst C dX6_seal_33 ic_2 ?_
      obtain ⟨p23, hp23, hf⟩ := obd_some hf
      refine GG.c_X6_299 C rfl (gX6_refuse hp23) ⟨Nat.le_of_ble_eq_true rfl, Nat.le_of_ble_eq_true rfl⟩ ⟨Nat.le_of_ble_eq_true rfl, Nat.le_of_ble_eq_true rfl⟩ (Nat.le_of_ble_eq_true rfl) dX6_seal_34 ?_
      have hf := Option.some.inj hf
      subst hf
      exact GG.iret C E dX6_seal_37
  · have hf := if_t hf c4
    refine GG.aload_n C dX6_seal_18 0 rfl ?_
    refine GG.iconst C dX6_seal_19 ic_1 ?_
    obtain ⟨p24, hp24, hf⟩ := obd_some hf
    refine GG.c_X6_299 C rfl (gX6_refuse hp24) ⟨Nat.le_of_ble_eq_true rfl, Nat.le_of_ble_eq_true rfl⟩ ⟨Nat.le_of_ble_eq_true rfl, Nat.le_of_ble_eq_true rfl⟩ (Nat.le_of_ble_eq_true rfl) dX6_seal_20 ?_
    have hf := Option.some.inj hf
    subst hf
    exact GG.iret C E dX6_seal_23
theorem gX6_open_130 {K : gK} {X : gX} {M : XS} (C : gC K X cX6_open 13 yX6_open (some Jvm.ClassFile.FieldType.int) rX6_open)  {o : (Int32 × MS)} (E : gE K X (some (.int o.1)) M (some o.2) rX6_open.cells rX6_open.slots)   :
    ∀ (n : Nat) (S : MS) (a1 : Int32) (a4 : Int32) (a5 : Int32) (a6 : Int32) (a7 : Int64) (a9 : Int32), fX6_open_130  n S a1 a4 a5 a6 a7 a9 = some o → GG K X 13 0 0 M (some S) 130 [(0, .ref (kh K)), (1, .int a1), (4, .int a4), (5, .int a5), (6, .int a6), (7, .long a7), (9, .int a9)] [] := by
  intro n
  induction n with
  | zero => intro S a1 a4 a5 a6 a7 a9 hf; cases hf
  | succ n ih =>
    intro S a1 a4 a5 a6 a7 a9 hf
    rw [fX6_open_130] at hf
    refine GG.iload C dX6_open_130 6 rfl ?_
    refine GG.iload C dX6_open_132 2 rfl ?_
    refine GG.icmp_ge C (tgt := 241) dX6_open_134 (by decide) (fun c24 => ?_) (fun c24 => ?_)
    · have hf := if_t hf c24
      refine GG.aload_n C dX6_open_241 0 rfl ?_
      refine GG.iload_n C dX6_open_242 1 rfl ?_
      refine GG.iconst C dX6_open_243 ic_2 ?_
      refine GG.iload C dX6_open_244 2 rfl ?_
      refine GG.iadd C dX6_open_246 ?_
      obtain ⟨v25, hv25, hf⟩ := obd_some hf
      refine GG.c_X6_393 C rfl (gX6_numberOf hv25) ⟨Nat.le_of_ble_eq_true rfl, Nat.le_of_ble_eq_true rfl⟩ ⟨Nat.le_of_ble_eq_true rfl, Nat.le_of_ble_eq_true rfl⟩ (Nat.le_of_ble_eq_true rfl) dX6_open_247 ?_
      refine GG.lload C dX6_open_250 5 rfl ?_
      refine GG.ldc2 C (v := (lN 251)) q2189 dX6_open_252 ?_
      refine GG.lrem C dX6_open_255 (by decide) ?_
      refine GG.lcmp C dX6_open_256 ?_
      refine GG.if_ne C (tgt := 269) dX6_open_257 (by decide) (fun c26 => ?_) (fun c26 => ?_)
      · have hf := if_f hf c26
        refine GG.aload_n C dX6_open_269 0 rfl ?_
        refine GG.bipush C dX6_open_270 bp_9 ?_
        obtain ⟨p27, hp27, hf⟩ := obd_some hf
        refine GG.c_X6_299 C rfl (gX6_refuse hp27) ⟨Nat.le_of_ble_eq_true rfl, Nat.le_of_ble_eq_true rfl⟩ ⟨Nat.le_of_ble_eq_true rfl, Nat.le_of_ble_eq_true rfl⟩ (Nat.le_of_ble_eq_true rfl) dX6_open_272 ?_
        have hf := Option.some.inj hf
        subst hf
        exact GG.iret C E dX6_open_275
      · have hf := if_t hf c26
        refine GG.aload_n C dX6_open_260 0 rfl ?_
        refine GG.iload C dX6_open_261 3 rfl ?_
        obtain ⟨v28, hv28, hf⟩ := obd_some hf
        refine GG.c_X6_322 C rfl (gX6_lackOf hv28) ⟨Nat.le_of_ble_eq_true rfl, Nat.le_of_ble_eq_true rfl⟩ ⟨Nat.le_of_ble_eq_true rfl, Nat.le_of_ble_eq_true rfl⟩ (Nat.le_of_ble_eq_true rfl) dX6_open_263 ?_
        refine GG.if_eq C (tgt := 276) dX6_open_266 (by decide) (fun c29 => ?_) (fun c29 => ?_)
        · have hf := if_t hf c29
          refine GG.iload C dX6_open_276 3 rfl ?_
          have hf := Option.some.inj hf
          subst hf
          exact GG.iret C E dX6_open_278
        · have hf := if_f hf c29
          refine GG.aload_n C dX6_open_269 0 rfl ?_
          refine GG.bipush C dX6_open_270 bp_9 ?_
          obtain ⟨p30, hp30, hf⟩ := obd_some hf
          refine GG.c_X6_299 C rfl (gX6_refuse hp30) ⟨Nat.le_of_ble_eq_true rfl, Nat.le_of_ble_eq_true rfl⟩ ⟨Nat.le_of_ble_eq_true rfl, Nat.le_of_ble_eq_true rfl⟩ (Nat.le_of_ble_eq_true rfl) dX6_open_272 ?_
          have hf := Option.some.inj hf
          subst hf
          exact GG.iret C E dX6_open_275
    · have hf := if_f hf c24
      refine GG.aload_n C dX6_open_137 0 rfl ?_
      refine GG.iload_n C dX6_open_138 1 rfl ?_
      refine GG.iconst C dX6_open_139 ic_2 ?_
      refine GG.iload C dX6_open_140 6 rfl ?_
      refine GG.iadd C dX6_open_142 ?_
      obtain ⟨v31, hv31, hf⟩ := obd_some hf
      refine GG.c_X6_393 C rfl (gX6_numberOf hv31) ⟨Nat.le_of_ble_eq_true rfl, Nat.le_of_ble_eq_true rfl⟩ ⟨Nat.le_of_ble_eq_true rfl, Nat.le_of_ble_eq_true rfl⟩ (Nat.le_of_ble_eq_true rfl) dX6_open_143 ?_
      refine GG.lstore C (lv' := [(10, .long v31), (0, .ref (kh K)), (1, .int a1), (4, .int a4), (5, .int a5), (6, .int a6), (7, .long a7), (9, .int a9)]) dX6_open_146 (by decide) rfl ?_
      refine GG.lload C dX6_open_148 0 rfl ?_
      refine GG.lconst C dX6_open_150 lc_0 ?_
      refine GG.ldc2 C (v := (lN 79)) q2194 dX6_open_151 ?_
      obtain ⟨v32, hv32, hf⟩ := obd_some hf
      refine GG.c_X6_110 C rfl (gX6_isIn hv32) ⟨Nat.le_of_ble_eq_true rfl, Nat.le_of_ble_eq_true rfl⟩ ⟨Nat.le_of_ble_eq_true rfl, Nat.le_of_ble_eq_true rfl⟩ (Nat.le_of_ble_eq_true rfl) dX6_open_154 ?_
      refine GG.if_ne C (tgt := 167) dX6_open_157 (by decide) (fun c33 => ?_) (fun c33 => ?_)
      · have hf := if_f hf c33
        refine GG.lload C dX6_open_167 0 rfl ?_
        refine GG.l2i C dX6_open_169 ?_
        refine GG.iconst C dX6_open_170 ic_5 ?_
        refine GG.idiv C dX6_open_171 (by decide) ?_
        refine GG.topi fun x34 hx34 => ?_
        have hf := ltb_s hx34 hf
        refine GG.istore C (lv' := [(12, .int x34), (10, .long v31), (0, .ref (kh K)), (1, .int a1), (4, .int a4), (5, .int a5), (6, .int a6), (7, .long a7), (9, .int a9)]) dX6_open_172 (by decide) rfl ?_
        refine GG.iload C dX6_open_174 0 rfl ?_
        refine GG.iload C dX6_open_176 6 rfl ?_
        refine GG.icmp_le C (tgt := 208) dX6_open_178 (by decide) (fun c35 => ?_) (fun c35 => ?_)
        · have hf := if_t hf c35
          refine GG.aload_n C dX6_open_208 2 rfl ?_
          refine GG.bipush C dX6_open_209 bp_9 ?_
          obtain ⟨p36, hp36, hf⟩ := obd_some hf
          refine GG.c_X6_299 C rfl (gX6_refuse hp36) ⟨Nat.le_of_ble_eq_true rfl, Nat.le_of_ble_eq_true rfl⟩ ⟨Nat.le_of_ble_eq_true rfl, Nat.le_of_ble_eq_true rfl⟩ (Nat.le_of_ble_eq_true rfl) dX6_open_211 ?_
          have hf := Option.some.inj hf
          subst hf
          exact GG.iret C E dX6_open_214
        · have hf := if_f hf c35
          refine GG.aload_n C dX6_open_181 2 rfl ?_
          refine GG.iload C dX6_open_182 0 rfl ?_
          obtain ⟨v37, hv37, hf⟩ := obd_some hf
          refine GG.c_X6_311 C rfl (gX6_isChange hv37) ⟨Nat.le_of_ble_eq_true rfl, Nat.le_of_ble_eq_true rfl⟩ ⟨Nat.le_of_ble_eq_true rfl, Nat.le_of_ble_eq_true rfl⟩ (Nat.le_of_ble_eq_true rfl) dX6_open_184 ?_
          refine GG.if_eq C (tgt := 208) dX6_open_187 (by decide) (fun c38 => ?_) (fun c38 => ?_)
          · have hf := if_t hf c38
            refine GG.aload_n C dX6_open_208 2 rfl ?_
            refine GG.bipush C dX6_open_209 bp_9 ?_
            obtain ⟨p39, hp39, hf⟩ := obd_some hf
            refine GG.c_X6_299 C rfl (gX6_refuse hp39) ⟨Nat.le_of_ble_eq_true rfl, Nat.le_of_ble_eq_true rfl⟩ ⟨Nat.le_of_ble_eq_true rfl, Nat.le_of_ble_eq_true rfl⟩ (Nat.le_of_ble_eq_true rfl) dX6_open_211 ?_
            have hf := Option.some.inj hf
            subst hf
            exact GG.iret C E dX6_open_214
          · have hf := if_f hf c38
            refine GG.aload_n C dX6_open_190 2 rfl ?_
            refine GG.iconst C dX6_open_191 ic_0 ?_
            refine GG.iload C dX6_open_192 0 rfl ?_
            obtain ⟨v40, hv40, hf⟩ := obd_some hf
            refine GG.c_X6_239 C rfl (gX6_kind hv40) ⟨Nat.le_of_ble_eq_true rfl, Nat.le_of_ble_eq_true rfl⟩ ⟨Nat.le_of_ble_eq_true rfl, Nat.le_of_ble_eq_true rfl⟩ (Nat.le_of_ble_eq_true rfl) dX6_open_194 ?_
            refine GG.i2l C dX6_open_197 ?_
            refine GG.lload C dX6_open_198 1 rfl ?_
            refine GG.ldc2 C (v := (lN 5)) q2188 dX6_open_200 ?_
            refine GG.lrem C dX6_open_203 (by decide) ?_
            refine GG.lcmp C dX6_open_204 ?_
            refine GG.if_eq C (tgt := 215) dX6_open_205 (by decide) (fun c41 => ?_) (fun c41 => ?_)
            · have hf := if_t hf c41
              refine GG.iload C dX6_open_215 0 rfl ?_
              refine GG.istore C (lv' := [(6, .int x34), (12, .int x34), (10, .long v31), (0, .ref (kh K)), (1, .int a1), (4, .int a4), (5, .int a5), (7, .long a7), (9, .int a9)]) dX6_open_217 (by decide) rfl ?_
              refine GG.iload C dX6_open_219 6 rfl ?_
              refine GG.iconst C dX6_open_221 ic_1 ?_
              refine GG.iload C dX6_open_222 1 rfl ?_
              refine GG.ishl C dX6_open_224 ?_
              refine GG.ior C dX6_open_225 ?_
              refine GG.topi fun x42 hx42 => ?_
              have hf := ltb_s hx42 hf
              refine GG.istore C (lv' := [(5, .int x42), (6, .int x34), (12, .int x34), (10, .long v31), (0, .ref (kh K)), (1, .int a1), (4, .int a4), (7, .long a7), (9, .int a9)]) dX6_open_226 (by decide) rfl ?_
              refine GG.lload C dX6_open_228 7 rfl ?_
              refine GG.lload C dX6_open_230 3 rfl ?_
              refine GG.ladd C dX6_open_232 ?_
              refine GG.topl fun x43 hx43 => ?_
              have hf := ltb_s hx43 hf
              refine GG.lstore C (lv' := [(7, .long x43), (5, .int x42), (6, .int x34), (12, .int x34), (10, .long v31), (0, .ref (kh K)), (1, .int a1), (4, .int a4), (9, .int a9)]) dX6_open_233 (by decide) rfl ?_
              refine GG.iinc C (v := (a9 + (nI 1))) (lv' := [(9, .int (a9 + (nI 1))), (7, .long x43), (5, .int x42), (6, .int x34), (12, .int x34), (10, .long v31), (0, .ref (kh K)), (1, .int a1), (4, .int a4)]) dX6_open_235 8 rfl (congrArg (a9 + ·) ic_1) (by decide) rfl ?_
              refine GG.goto C (tgt := 130) dX6_open_238 (by decide) ?_
              refine GG.sub [6, 7, 8, 2, 3, 1, 0] rfl ?_
              exact ih _ _ _ _ _ _ _ hf
            · have hf := if_f hf c41
              refine GG.aload_n C dX6_open_208 2 rfl ?_
              refine GG.bipush C dX6_open_209 bp_9 ?_
              obtain ⟨p44, hp44, hf⟩ := obd_some hf
              refine GG.c_X6_299 C rfl (gX6_refuse hp44) ⟨Nat.le_of_ble_eq_true rfl, Nat.le_of_ble_eq_true rfl⟩ ⟨Nat.le_of_ble_eq_true rfl, Nat.le_of_ble_eq_true rfl⟩ (Nat.le_of_ble_eq_true rfl) dX6_open_211 ?_
              have hf := Option.some.inj hf
              subst hf
              exact GG.iret C E dX6_open_214
      · have hf := if_t hf c33
        refine GG.aload_n C dX6_open_160 1 rfl ?_
        refine GG.bipush C dX6_open_161 bp_9 ?_
        obtain ⟨p45, hp45, hf⟩ := obd_some hf
        refine GG.c_X6_299 C rfl (gX6_refuse hp45) ⟨Nat.le_of_ble_eq_true rfl, Nat.le_of_ble_eq_true rfl⟩ ⟨Nat.le_of_ble_eq_true rfl, Nat.le_of_ble_eq_true rfl⟩ (Nat.le_of_ble_eq_true rfl) dX6_open_163 ?_
        have hf := Option.some.inj hf
        subst hf
        exact GG.iret C E dX6_open_166
theorem gX6_open {K : gK} {M : XS}  {S : MS} {a1 : Int32} {o : (Int32 × MS)} (hf : fX6_open S a1 = some o) : gMet K yX6_open cX6_open 13 (some Jvm.ClassFile.FieldType.int) rX6_open [(.ref (kh K)), (.int a1)] M (some S) (some (.int o.1)) M (some o.2) := by
  refine gMet.of pn_X6 (Nat.le_of_ble_eq_true rfl) fun X C E => ?_
  unfold fX6_open at hf
  show GG K X 13 0 0 M (some S) 0 [(0, .ref (kh K)), (1, .int a1)] []
  refine GG.aload_n C dX6_open_0 0 rfl ?_
  refine GG.iconst C dX6_open_1 ic_0 ?_
  refine GG.pm1 C rfl dX6_open_2 ?_
  refine GG.topS fun S1 hS1 => ?_
  have hf := ltb_s hS1 hf
  refine GG.aload_n C dX6_open_5 0 rfl ?_
  refine GG.iconst C dX6_open_6 ic_0 ?_
  refine GG.pm0 C rfl dX6_open_7 ?_
  refine GG.topS fun S2 hS2 => ?_
  have hf := ltb_s hS2 hf
  refine GG.aload_n C dX6_open_10 0 rfl ?_
  refine GG.iload_n C dX6_open_11 1 rfl ?_
  obtain ⟨v3, hv3, hf⟩ := obd_some hf
  refine GG.c_X6_388 C rfl (gX6_isTray hv3) ⟨Nat.le_of_ble_eq_true rfl, Nat.le_of_ble_eq_true rfl⟩ ⟨Nat.le_of_ble_eq_true rfl, Nat.le_of_ble_eq_true rfl⟩ (Nat.le_of_ble_eq_true rfl) dX6_open_12 ?_
  refine GG.if_ne C (tgt := 24) dX6_open_15 (by decide) (fun c4 => ?_) (fun c4 => ?_)
  · have hf := if_f hf c4
    refine GG.aload_n C dX6_open_24 0 rfl ?_
    refine GG.gm5 C rfl dX6_open_25 ?_
    refine GG.iload_n C dX6_open_28 1 rfl ?_
    obtain ⟨v5, hv5, hf⟩ := obd_some hf
    refine GG.mi C rfl hv5 dX6_open_29 ?_
    refine GG.if_ge C (tgt := 39) dX6_open_30 (by decide) (fun c6 => ?_) (fun c6 => ?_)
    · have hf := if_t hf c6
      refine GG.aload_n C dX6_open_39 0 rfl ?_
      refine GG.gm5 C rfl dX6_open_40 ?_
      refine GG.iload_n C dX6_open_43 1 rfl ?_
      obtain ⟨v7, hv7, hf⟩ := obd_some hf
      refine GG.mi C rfl hv7 dX6_open_44 ?_
      refine GG.iconst C dX6_open_45 ic_3 ?_
      refine GG.icmp_ge C (tgt := 55) dX6_open_46 (by decide) (fun c8 => ?_) (fun c8 => ?_)
      · have hf := if_t hf c8
        refine GG.aload_n C dX6_open_55 0 rfl ?_
        refine GG.iload_n C dX6_open_56 1 rfl ?_
        refine GG.iconst C dX6_open_57 ic_1 ?_
        obtain ⟨v9, hv9, hf⟩ := obd_some hf
        refine GG.c_X6_393 C rfl (gX6_numberOf hv9) ⟨Nat.le_of_ble_eq_true rfl, Nat.le_of_ble_eq_true rfl⟩ ⟨Nat.le_of_ble_eq_true rfl, Nat.le_of_ble_eq_true rfl⟩ (Nat.le_of_ble_eq_true rfl) dX6_open_58 ?_
        refine GG.lstore_n C (lv' := [(2, .long v9), (0, .ref (kh K)), (1, .int a1)]) dX6_open_61 (by decide) rfl ?_
        refine GG.aload_n C dX6_open_62 1 rfl ?_
        refine GG.iload_n C dX6_open_63 2 rfl ?_
        refine GG.iconst C dX6_open_64 ic_0 ?_
        obtain ⟨v10, hv10, hf⟩ := obd_some hf
        refine GG.c_X6_393 C rfl (gX6_numberOf hv10) ⟨Nat.le_of_ble_eq_true rfl, Nat.le_of_ble_eq_true rfl⟩ ⟨Nat.le_of_ble_eq_true rfl, Nat.le_of_ble_eq_true rfl⟩ (Nat.le_of_ble_eq_true rfl) dX6_open_65 ?_
        refine GG.lconst C dX6_open_68 lc_1 ?_
        refine GG.lcmp C dX6_open_69 ?_
        refine GG.if_ne C (tgt := 84) dX6_open_70 (by decide) (fun c11 => ?_) (fun c11 => ?_)
        · have hf := if_f hf c11
          refine GG.aload_n C dX6_open_84 1 rfl ?_
          refine GG.bipush C dX6_open_85 bp_9 ?_
          obtain ⟨p12, hp12, hf⟩ := obd_some hf
          refine GG.c_X6_299 C rfl (gX6_refuse hp12) ⟨Nat.le_of_ble_eq_true rfl, Nat.le_of_ble_eq_true rfl⟩ ⟨Nat.le_of_ble_eq_true rfl, Nat.le_of_ble_eq_true rfl⟩ (Nat.le_of_ble_eq_true rfl) dX6_open_87 ?_
          have hf := Option.some.inj hf
          subst hf
          exact GG.iret C E dX6_open_90
        · have hf := if_t hf c11
          refine GG.lload_n C dX6_open_73 0 rfl ?_
          refine GG.lconst C dX6_open_74 lc_0 ?_
          refine GG.ldc2 C (v := (lN 16)) q2048 dX6_open_75 ?_
          obtain ⟨v13, hv13, hf⟩ := obd_some hf
          refine GG.c_X6_110 C rfl (gX6_isIn hv13) ⟨Nat.le_of_ble_eq_true rfl, Nat.le_of_ble_eq_true rfl⟩ ⟨Nat.le_of_ble_eq_true rfl, Nat.le_of_ble_eq_true rfl⟩ (Nat.le_of_ble_eq_true rfl) dX6_open_78 ?_
          refine GG.if_ne C (tgt := 91) dX6_open_81 (by decide) (fun c14 => ?_) (fun c14 => ?_)
          · have hf := if_f hf c14
            refine GG.lload_n C dX6_open_91 0 rfl ?_
            refine GG.l2i C dX6_open_92 ?_
            refine GG.topi fun x15 hx15 => ?_
            have hf := ltb_s hx15 hf
            refine GG.istore C (lv' := [(4, .int x15), (2, .long v9), (0, .ref (kh K)), (1, .int a1)]) dX6_open_93 (by decide) rfl ?_
            refine GG.aload_n C dX6_open_95 2 rfl ?_
            refine GG.gm5 C rfl dX6_open_96 ?_
            refine GG.iload_n C dX6_open_99 3 rfl ?_
            obtain ⟨v16, hv16, hf⟩ := obd_some hf
            refine GG.mi C rfl hv16 dX6_open_100 ?_
            refine GG.iload C dX6_open_101 0 rfl ?_
            refine GG.iconst C dX6_open_103 ic_3 ?_
            refine GG.iadd C dX6_open_104 ?_
            refine GG.icmp_ge C (tgt := 114) dX6_open_105 (by decide) (fun c17 => ?_) (fun c17 => ?_)
            · have hf := if_t hf c17
              refine GG.iconst C dX6_open_114 ic_0 ?_
              refine GG.istore C (lv' := [(5, .int (nI 0)), (4, .int x15), (2, .long v9), (0, .ref (kh K)), (1, .int a1)]) dX6_open_115 (by decide) rfl ?_
              refine GG.iconst C dX6_open_117 ic_m1 ?_
              refine GG.istore C (lv' := [(6, .int (-1 : Int32)), (5, .int (nI 0)), (4, .int x15), (2, .long v9), (0, .ref (kh K)), (1, .int a1)]) dX6_open_118 (by decide) rfl ?_
              refine GG.lconst C dX6_open_120 lc_1 ?_
              refine GG.iload C dX6_open_121 2 rfl ?_
              refine GG.i2l C dX6_open_123 ?_
              refine GG.ladd C dX6_open_124 ?_
              refine GG.topl fun x18 hx18 => ?_
              have hf := ltb_s hx18 hf
              refine GG.lstore C (lv' := [(7, .long x18), (6, .int (-1 : Int32)), (5, .int (nI 0)), (4, .int x15), (2, .long v9), (0, .ref (kh K)), (1, .int a1)]) dX6_open_125 (by decide) rfl ?_
              refine GG.iconst C dX6_open_127 ic_0 ?_
              refine GG.istore C (lv' := [(9, .int (nI 0)), (7, .long x18), (6, .int (-1 : Int32)), (5, .int (nI 0)), (4, .int x15), (2, .long v9), (0, .ref (kh K)), (1, .int a1)]) dX6_open_128 (by decide) rfl ?_
              refine GG.sub [6, 7, 4, 3, 2, 1, 0] rfl ?_
              exact gX6_open_130 C E  FU _ _ _ _ _ _ _ hf
            · have hf := if_f hf c17
              refine GG.aload_n C dX6_open_108 2 rfl ?_
              refine GG.iconst C dX6_open_109 ic_4 ?_
              obtain ⟨p19, hp19, hf⟩ := obd_some hf
              refine GG.c_X6_299 C rfl (gX6_refuse hp19) ⟨Nat.le_of_ble_eq_true rfl, Nat.le_of_ble_eq_true rfl⟩ ⟨Nat.le_of_ble_eq_true rfl, Nat.le_of_ble_eq_true rfl⟩ (Nat.le_of_ble_eq_true rfl) dX6_open_110 ?_
              have hf := Option.some.inj hf
              subst hf
              exact GG.iret C E dX6_open_113
          · have hf := if_t hf c14
            refine GG.aload_n C dX6_open_84 1 rfl ?_
            refine GG.bipush C dX6_open_85 bp_9 ?_
            obtain ⟨p20, hp20, hf⟩ := obd_some hf
            refine GG.c_X6_299 C rfl (gX6_refuse hp20) ⟨Nat.le_of_ble_eq_true rfl, Nat.le_of_ble_eq_true rfl⟩ ⟨Nat.le_of_ble_eq_true rfl, Nat.le_of_ble_eq_true rfl⟩ (Nat.le_of_ble_eq_true rfl) dX6_open_87 ?_
            have hf := Option.some.inj hf
            subst hf
            exact GG.iret C E dX6_open_90
      · have hf := if_f hf c8
        refine GG.aload_n C dX6_open_49 0 rfl ?_
        refine GG.iconst C dX6_open_50 ic_4 ?_
        obtain ⟨p21, hp21, hf⟩ := obd_some hf
        refine GG.c_X6_299 C rfl (gX6_refuse hp21) ⟨Nat.le_of_ble_eq_true rfl, Nat.le_of_ble_eq_true rfl⟩ ⟨Nat.le_of_ble_eq_true rfl, Nat.le_of_ble_eq_true rfl⟩ (Nat.le_of_ble_eq_true rfl) dX6_open_51 ?_
        have hf := Option.some.inj hf
        subst hf
        exact GG.iret C E dX6_open_54
    · have hf := if_f hf c6
      refine GG.aload_n C dX6_open_33 0 rfl ?_
      refine GG.iconst C dX6_open_34 ic_3 ?_
      obtain ⟨p22, hp22, hf⟩ := obd_some hf
      refine GG.c_X6_299 C rfl (gX6_refuse hp22) ⟨Nat.le_of_ble_eq_true rfl, Nat.le_of_ble_eq_true rfl⟩ ⟨Nat.le_of_ble_eq_true rfl, Nat.le_of_ble_eq_true rfl⟩ (Nat.le_of_ble_eq_true rfl) dX6_open_35 ?_
      have hf := Option.some.inj hf
      subst hf
      exact GG.iret C E dX6_open_38
  · have hf := if_t hf c4
    refine GG.aload_n C dX6_open_18 0 rfl ?_
    refine GG.iconst C dX6_open_19 ic_1 ?_
    obtain ⟨p23, hp23, hf⟩ := obd_some hf
    refine GG.c_X6_299 C rfl (gX6_refuse hp23) ⟨Nat.le_of_ble_eq_true rfl, Nat.le_of_ble_eq_true rfl⟩ ⟨Nat.le_of_ble_eq_true rfl, Nat.le_of_ble_eq_true rfl⟩ (Nat.le_of_ble_eq_true rfl) dX6_open_20 ?_
    have hf := Option.some.inj hf
    subst hf
    exact GG.iret C E dX6_open_23
theorem gX6_copy_41 {K : gK} {X : gX} {M : XS} (C : gC K X cX6_copy 4 yX6_copy none rX6_copy)  {o : MS} (E : gE K X none M (some o) rX6_copy.cells rX6_copy.slots)   :
    ∀ (n : Nat) (S : MS) (a1 : Int32) (a2 : Int32) (a3 : Int32), fX6_copy_41  n S a1 a2 a3 = some o → GG K X 4 0 0 M (some S) 41 [(0, .ref (kh K)), (1, .int a1), (2, .int a2), (3, .int a3)] [] := by
  intro n
  induction n with
  | zero => intro S a1 a2 a3 hf; cases hf
  | succ n ih =>
    intro S a1 a2 a3 hf
    rw [fX6_copy_41] at hf
    refine GG.iload_n C dX6_copy_41 3 rfl ?_
    refine GG.bipush C dX6_copy_42 bp_20 ?_
    refine GG.icmp_ge C (tgt := 75) dX6_copy_44 (by decide) (fun c4 => ?_) (fun c4 => ?_)
    · have hf := if_t hf c4
      have hf := Option.some.inj hf
      subst hf
      exact GG.vret C E dX6_copy_75
    · have hf := if_f hf c4
      refine GG.aload_n C dX6_copy_47 0 rfl ?_
      refine GG.gm21 C rfl dX6_copy_48 ?_
      refine GG.bipush C dX6_copy_51 bp_20 ?_
      refine GG.iload_n C dX6_copy_53 2 rfl ?_
      refine GG.imul C dX6_copy_54 ?_
      refine GG.iload_n C dX6_copy_55 3 rfl ?_
      refine GG.iadd C dX6_copy_56 ?_
      refine GG.aload_n C dX6_copy_57 0 rfl ?_
      refine GG.gm21 C rfl dX6_copy_58 ?_
      refine GG.bipush C dX6_copy_61 bp_20 ?_
      refine GG.iload_n C dX6_copy_63 1 rfl ?_
      refine GG.imul C dX6_copy_64 ?_
      refine GG.iload_n C dX6_copy_65 3 rfl ?_
      refine GG.iadd C dX6_copy_66 ?_
      obtain ⟨v5, hv5, hf⟩ := obd_some hf
      refine GG.ml C hv5 dX6_copy_67 ?_
      obtain ⟨S6, hS6, hf⟩ := obd_some hf
      refine GG.mls C hS6 dX6_copy_68 ?_
      refine GG.iinc C (v := (a3 + (nI 1))) (lv' := [(3, .int (a3 + (nI 1))), (0, .ref (kh K)), (1, .int a1), (2, .int a2)]) dX6_copy_69 3 rfl (congrArg (a3 + ·) ic_1) (by decide) rfl ?_
      refine GG.goto C (tgt := 41) dX6_copy_72 (by decide) ?_
      refine GG.sub [1, 2, 3, 0] rfl ?_
      exact ih _ _ _ _ hf
theorem gX6_copy_2 {K : gK} {X : gX} {M : XS} (C : gC K X cX6_copy 4 yX6_copy none rX6_copy)  {o : MS} (E : gE K X none M (some o) rX6_copy.cells rX6_copy.slots)   :
    ∀ (n : Nat) (S : MS) (a1 : Int32) (a2 : Int32) (a3 : Int32), fX6_copy_2  n S a1 a2 a3 = some o → GG K X 4 0 0 M (some S) 2 [(0, .ref (kh K)), (1, .int a1), (2, .int a2), (3, .int a3)] [] := by
  intro n
  induction n with
  | zero => intro S a1 a2 a3 hf; cases hf
  | succ n ih =>
    intro S a1 a2 a3 hf
    rw [fX6_copy_2] at hf
    refine GG.iload_n C dX6_copy_2 3 rfl ?_
    refine GG.sipush C dX6_copy_3 sp_360 ?_
    refine GG.icmp_ge C (tgt := 39) dX6_copy_6 (by decide) (fun c1 => ?_) (fun c1 => ?_)
    · have hf := if_t hf c1
      refine GG.iconst C dX6_copy_39 ic_0 ?_
      refine GG.istore_n C (lv' := [(3, .int (nI 0)), (0, .ref (kh K)), (1, .int a1), (2, .int a2)]) dX6_copy_40 (by decide) rfl ?_
      refine GG.sub [1, 2, 3, 0] rfl ?_
      exact gX6_copy_41 C E  FU _ _ _ _ hf
    · have hf := if_f hf c1
      refine GG.aload_n C dX6_copy_9 0 rfl ?_
      refine GG.gm20 C rfl dX6_copy_10 ?_
      refine GG.sipush C dX6_copy_13 sp_360 ?_
      refine GG.iload_n C dX6_copy_16 2 rfl ?_
      refine GG.imul C dX6_copy_17 ?_
      refine GG.iload_n C dX6_copy_18 3 rfl ?_
      refine GG.iadd C dX6_copy_19 ?_
      refine GG.aload_n C dX6_copy_20 0 rfl ?_
      refine GG.gm20 C rfl dX6_copy_21 ?_
      refine GG.sipush C dX6_copy_24 sp_360 ?_
      refine GG.iload_n C dX6_copy_27 1 rfl ?_
      refine GG.imul C dX6_copy_28 ?_
      refine GG.iload_n C dX6_copy_29 3 rfl ?_
      refine GG.iadd C dX6_copy_30 ?_
      obtain ⟨v2, hv2, hf⟩ := obd_some hf
      refine GG.mi C rfl hv2 dX6_copy_31 ?_
      obtain ⟨S3, hS3, hf⟩ := obd_some hf
      refine GG.mis C rfl hS3 dX6_copy_32 ?_
      refine GG.iinc C (v := (a3 + (nI 1))) (lv' := [(3, .int (a3 + (nI 1))), (0, .ref (kh K)), (1, .int a1), (2, .int a2)]) dX6_copy_33 3 rfl (congrArg (a3 + ·) ic_1) (by decide) rfl ?_
      refine GG.goto C (tgt := 2) dX6_copy_36 (by decide) ?_
      refine GG.sub [1, 2, 3, 0] rfl ?_
      exact ih _ _ _ _ hf
theorem gX6_copy {K : gK} {M : XS}  {S : MS} {a1 : Int32} {a2 : Int32} {o : MS} (hf : fX6_copy S a1 a2 = some o) : gMet K yX6_copy cX6_copy 4 none rX6_copy [(.ref (kh K)), (.int a1), (.int a2)] M (some S) none M (some o) := by
  refine gMet.of pn_X6 (Nat.le_of_ble_eq_true rfl) fun X C E => ?_
  unfold fX6_copy at hf
  show GG K X 4 0 0 M (some S) 0 [(0, .ref (kh K)), (1, .int a1), (2, .int a2)] []
  refine GG.iconst C dX6_copy_0 ic_0 ?_
  refine GG.istore_n C (lv' := [(3, .int (nI 0)), (0, .ref (kh K)), (1, .int a1), (2, .int a2)]) dX6_copy_1 (by decide) rfl ?_
  refine GG.sub [1, 2, 3, 0] rfl ?_
  exact gX6_copy_2 C E  FU _ _ _ _ hf
theorem gX6_mark {K : gK} {M : XS}  {S : MS} {o : (Int32 × MS)} (hf : fX6_mark S = some o) : gMet K yX6_mark cX6_mark 1 (some Jvm.ClassFile.FieldType.int) rX6_mark [(.ref (kh K))] M (some S) (some (.int o.1)) M (some o.2) := by
  refine gMet.of pn_X6 (Nat.le_of_ble_eq_true rfl) fun X C E => ?_
  unfold fX6_mark at hf
  show GG K X 1 0 0 M (some S) 0 [(0, .ref (kh K))] []
  refine GG.aload_n C dX6_mark_0 0 rfl ?_
  refine GG.iconst C dX6_mark_1 ic_0 ?_
  refine GG.pm1 C rfl dX6_mark_2 ?_
  refine GG.topS fun S1 hS1 => ?_
  have hf := ltb_s hS1 hf
  refine GG.aload_n C dX6_mark_5 0 rfl ?_
  refine GG.iconst C dX6_mark_6 ic_0 ?_
  refine GG.pm0 C rfl dX6_mark_7 ?_
  refine GG.topS fun S2 hS2 => ?_
  have hf := ltb_s hS2 hf
  refine GG.aload_n C dX6_mark_10 0 rfl ?_
  refine GG.gm22 C rfl dX6_mark_11 ?_
  refine GG.iconst C dX6_mark_14 ic_3 ?_
  refine GG.icmp_ne C (tgt := 25) dX6_mark_15 (by decide) (fun c3 => ?_) (fun c3 => ?_)
  · have hf := if_f hf c3
    refine GG.aload_n C dX6_mark_25 0 rfl ?_
    refine GG.dup C dX6_mark_26 rfl ?_
    refine GG.gm22 C rfl dX6_mark_27 ?_
    refine GG.iconst C dX6_mark_30 ic_1 ?_
    refine GG.iadd C dX6_mark_31 ?_
    refine GG.pm22 C rfl dX6_mark_32 ?_
    refine GG.topS fun S4 hS4 => ?_
    have hf := ltb_s hS4 hf
    refine GG.aload_n C dX6_mark_35 0 rfl ?_
    refine GG.iconst C dX6_mark_36 ic_0 ?_
    refine GG.aload_n C dX6_mark_37 0 rfl ?_
    refine GG.gm22 C rfl dX6_mark_38 ?_
    obtain ⟨p5, hp5, hf⟩ := obd_some hf
    refine GG.c_X6_507 C rfl (gX6_copy hp5) ⟨Nat.le_of_ble_eq_true rfl, Nat.le_of_ble_eq_true rfl⟩ ⟨Nat.le_of_ble_eq_true rfl, Nat.le_of_ble_eq_true rfl⟩ (Nat.le_of_ble_eq_true rfl) dX6_mark_41 ?_
    refine GG.aload_n C dX6_mark_44 0 rfl ?_
    refine GG.gm22 C rfl dX6_mark_45 ?_
    have hf := Option.some.inj hf
    subst hf
    exact GG.iret C E dX6_mark_48
  · have hf := if_t hf c3
    refine GG.aload_n C dX6_mark_18 0 rfl ?_
    refine GG.bipush C dX6_mark_19 bp_7 ?_
    obtain ⟨p6, hp6, hf⟩ := obd_some hf
    refine GG.c_X6_299 C rfl (gX6_refuse hp6) ⟨Nat.le_of_ble_eq_true rfl, Nat.le_of_ble_eq_true rfl⟩ ⟨Nat.le_of_ble_eq_true rfl, Nat.le_of_ble_eq_true rfl⟩ (Nat.le_of_ble_eq_true rfl) dX6_mark_21 ?_
    have hf := Option.some.inj hf
    subst hf
    exact GG.iret C E dX6_mark_24
theorem gX6_back {K : gK} {M : XS}  {S : MS} {o : (Int32 × MS)} (hf : fX6_back S = some o) : gMet K yX6_back cX6_back 1 (some Jvm.ClassFile.FieldType.int) rX6_back [(.ref (kh K))] M (some S) (some (.int o.1)) M (some o.2) := by
  refine gMet.of pn_X6 (Nat.le_of_ble_eq_true rfl) fun X C E => ?_
  unfold fX6_back at hf
  show GG K X 1 0 0 M (some S) 0 [(0, .ref (kh K))] []
  refine GG.aload_n C dX6_back_0 0 rfl ?_
  refine GG.iconst C dX6_back_1 ic_0 ?_
  refine GG.pm1 C rfl dX6_back_2 ?_
  refine GG.topS fun S1 hS1 => ?_
  have hf := ltb_s hS1 hf
  refine GG.aload_n C dX6_back_5 0 rfl ?_
  refine GG.iconst C dX6_back_6 ic_0 ?_
  refine GG.pm0 C rfl dX6_back_7 ?_
  refine GG.topS fun S2 hS2 => ?_
  have hf := ltb_s hS2 hf
  refine GG.aload_n C dX6_back_10 0 rfl ?_
  refine GG.gm22 C rfl dX6_back_11 ?_
  refine GG.if_ne C (tgt := 24) dX6_back_14 (by decide) (fun c3 => ?_) (fun c3 => ?_)
  · have hf := if_f hf c3
    refine GG.aload_n C dX6_back_24 0 rfl ?_
    refine GG.aload_n C dX6_back_25 0 rfl ?_
    refine GG.gm22 C rfl dX6_back_26 ?_
    refine GG.iconst C dX6_back_29 ic_0 ?_
    obtain ⟨p4, hp4, hf⟩ := obd_some hf
    refine GG.c_X6_507 C rfl (gX6_copy hp4) ⟨Nat.le_of_ble_eq_true rfl, Nat.le_of_ble_eq_true rfl⟩ ⟨Nat.le_of_ble_eq_true rfl, Nat.le_of_ble_eq_true rfl⟩ (Nat.le_of_ble_eq_true rfl) dX6_back_30 ?_
    refine GG.aload_n C dX6_back_33 0 rfl ?_
    refine GG.dup C dX6_back_34 rfl ?_
    refine GG.gm22 C rfl dX6_back_35 ?_
    refine GG.iconst C dX6_back_38 ic_1 ?_
    refine GG.isub C dX6_back_39 ?_
    refine GG.pm22 C rfl dX6_back_40 ?_
    refine GG.topS fun S5 hS5 => ?_
    have hf := ltb_s hS5 hf
    refine GG.aload_n C dX6_back_43 0 rfl ?_
    refine GG.gm22 C rfl dX6_back_44 ?_
    have hf := Option.some.inj hf
    subst hf
    exact GG.iret C E dX6_back_47
  · have hf := if_t hf c3
    refine GG.aload_n C dX6_back_17 0 rfl ?_
    refine GG.bipush C dX6_back_18 bp_8 ?_
    obtain ⟨p6, hp6, hf⟩ := obd_some hf
    refine GG.c_X6_299 C rfl (gX6_refuse hp6) ⟨Nat.le_of_ble_eq_true rfl, Nat.le_of_ble_eq_true rfl⟩ ⟨Nat.le_of_ble_eq_true rfl, Nat.le_of_ble_eq_true rfl⟩ (Nat.le_of_ble_eq_true rfl) dX6_back_20 ?_
    have hf := Option.some.inj hf
    subst hf
    exact GG.iret C E dX6_back_23
