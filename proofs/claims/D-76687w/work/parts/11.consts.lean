/-! CONSTANTS: the classes, the words that do not ride in the lists, the statics -/
set_option maxRecDepth 100000
abbrev gCL : List vw_C := [(RX0, TX0, 7), (RX1, TX1, 2), (RX2, TX2, 9), (RX3, TX3, 1), (RX5, TX5, 7), (RX7, TX7, 1), (RX8, TX8, 1), (RX9, TX9, 1), (RX10, TX10, 1), (RX11, TX11, 4), (RX12, TX12, 7), (RX13, TX13, 1), (RX14, TX14, 4), (RX15, TX15, 9), (RX16, TX16, 6), (RX17, TX17, 6), (RX18, TX18, 6), (RX19, TX19, 6), (RX20, TX20, 6), (RX21, TX21, 6), (RX22, TX22, 6), (RX23, TX23, 6), (RX24, TX24, 2), (RX25, TX25, 3), (RX26, TX26, 2), (RJ19, TJ19, 3), (RJ29, TJ29, 4), (RJ41, TJ41, 4), (RJ28, TJ28, 3), (RJ34, TJ34, 5), (RJ36, TJ36, 3), (RJ39, TJ39, 4), (RJ37, TJ37, 3), (RJ9, TJ9, 2), (RJ31, TJ31, 4), (RJ45, TJ45, 3), (RX4, TX4, 41)]
abbrev ciLine : Nat := 11
abbrev ciRev : Nat := 12
abbrev ciMatch : Nat := 13
abbrev ciModel : Nat := 36
def gNWs : List Cond := [(Jvm.Cond.methodLinkNest "java/util/ImmutableCollections" (43 : Nat) ({ cls := "java/util/ImmutableCollections$ListN", name := "<init>", desc := "([Ljava/lang/Object;Z)V" } : Jvm.MethodName) "java/util/ImmutableCollections"),
  (Jvm.Cond.castable "java/lang/ArrayIndexOutOfBoundsException" "java/lang/ArrayIndexOutOfBoundsException"),
  (Jvm.Cond.declares ({ cls := "java/lang/IndexOutOfBoundsException", name := "<init>", desc := "()V" } : Jvm.MethodName)),
  (Jvm.Cond.declares ({ cls := "java/lang/IndexOutOfBoundsException", name := "<init>", desc := "(Ljava/lang/String;)V" } : Jvm.MethodName)),
  (Jvm.Cond.declares ({ cls := "java/lang/RuntimeException", name := "<init>", desc := "()V" } : Jvm.MethodName)),
  (Jvm.Cond.declares ({ cls := "java/lang/RuntimeException", name := "<init>", desc := "(Ljava/lang/String;)V" } : Jvm.MethodName)),
  (Jvm.Cond.declares ({ cls := "java/lang/Exception", name := "<init>", desc := "()V" } : Jvm.MethodName)),
  (Jvm.Cond.declares ({ cls := "java/lang/Exception", name := "<init>", desc := "(Ljava/lang/String;)V" } : Jvm.MethodName)),
  (Jvm.Cond.declares ({ cls := "java/lang/Throwable", name := "<init>", desc := "()V" } : Jvm.MethodName)),
  (Jvm.Cond.declares ({ cls := "java/lang/Throwable", name := "<init>", desc := "(Ljava/lang/String;)V" } : Jvm.MethodName)),
  (Jvm.Cond.castable "LineRemarks$Refused" "LineRemarks$Refused"),
  (Jvm.Cond.castable "java/lang/NegativeArraySizeException" "java/lang/NegativeArraySizeException"),
  (Jvm.Cond.castable "java/lang/ClassCastException" "java/lang/ClassCastException"),
  (Jvm.Cond.declares ({ cls := "LineRemarks$Row", name := "put", desc := "(IJ)V" } : Jvm.MethodName)),
  (Jvm.Cond.declares ({ cls := "LineRemarks$Row", name := "sort", desc := "()I" } : Jvm.MethodName)),
  (Jvm.Cond.declares ({ cls := "LineRemarks$Row", name := "held", desc := "()Ljava/lang/Object;" } : Jvm.MethodName)),
  (Jvm.Cond.declares ({ cls := "LineRemarks$Row", name := "get", desc := "(I)J" } : Jvm.MethodName)),
  (Jvm.Cond.fieldLinkNest "java/util/ArrayList$Itr" (28 : Nat) "java/util/ArrayList" "size" "I" "java/util/ArrayList"),
  (Jvm.Cond.declares ({ cls := "LineRemarks$Row", name := "length", desc := "()I" } : Jvm.MethodName)),
  (Jvm.Cond.castable "LineRemarks$Faulty" "LineRemarks$Faulty"),
  (Jvm.Cond.declares ({ cls := "java/util/List", name := "add", desc := "(Ljava/lang/Object;)Z" } : Jvm.MethodName)),
  (Jvm.Cond.castable "java/util/ArrayList" "java/util/List"),
  (Jvm.Cond.castable "java/util/Collections$CopiesList" "java/util/List"),
  (Jvm.Cond.declares ({ cls := "java/util/AbstractCollection", name := "size", desc := "()I" } : Jvm.MethodName)),
  (Jvm.Cond.castable "java/lang/IndexOutOfBoundsException" "java/lang/IndexOutOfBoundsException"),
  (Jvm.Cond.castable "[B" "java/lang/Cloneable"),
  (Jvm.Cond.castable "java/util/ImmutableCollections$ListN" "java/util/List"),
  (Jvm.Cond.castable "java/util/LinkedList" "java/util/List"),
  (Jvm.Cond.declares ({ cls := "java/util/List", name := "size", desc := "()I" } : Jvm.MethodName)),
  (Jvm.Cond.declares ({ cls := "java/util/List", name := "iterator", desc := "()Ljava/util/Iterator;" } : Jvm.MethodName)),
  (Jvm.Cond.declares ({ cls := "java/util/AbstractList", name := "listIterator", desc := "()Ljava/util/ListIterator;" } : Jvm.MethodName)),
  (Jvm.Cond.declares ({ cls := "java/util/Iterator", name := "hasNext", desc := "()Z" } : Jvm.MethodName)),
  (Jvm.Cond.castable "java/util/ArrayDeque$DeqIterator" "java/util/Iterator"),
  (Jvm.Cond.castable "java/util/ArrayList$Itr" "java/util/Iterator"),
  (Jvm.Cond.castable "java/util/ImmutableCollections$ListItr" "java/util/Iterator"),
  (Jvm.Cond.castable "java/util/LinkedList$ListItr" "java/util/Iterator"),
  (Jvm.Cond.declares ({ cls := "java/util/Iterator", name := "next", desc := "()Ljava/lang/Object;" } : Jvm.MethodName)),
  (Jvm.Cond.declares ({ cls := "java/util/AbstractList", name := "get", desc := "(I)Ljava/lang/Object;" } : Jvm.MethodName)),
  (Jvm.Cond.declares ({ cls := "java/util/List", name := "get", desc := "(I)Ljava/lang/Object;" } : Jvm.MethodName)),
  (Jvm.Cond.declares ({ cls := "java/util/ImmutableCollections$AbstractImmutableList", name := "outOfBounds", desc := "(I)Ljava/lang/IndexOutOfBoundsException;" } : Jvm.MethodName)),
  (Jvm.Cond.castable "[J" "java/lang/Cloneable"),
  (Jvm.Cond.fieldLinkNest "LineRemarks$Walk" (79 : Nat) "LineRemarks$Context" "lines" "[LLineRemarks$Line;" "LineRemarks"),
  (Jvm.Cond.declares ({ cls := "java/util/AbstractSequentialList", name := "iterator", desc := "()Ljava/util/Iterator;" } : Jvm.MethodName)),
  (Jvm.Cond.declares ({ cls := "java/util/Iterator", name := "remove", desc := "()V" } : Jvm.MethodName)),
  (Jvm.Cond.declares ({ cls := "java/util/Collection", name := "toArray", desc := "()[Ljava/lang/Object;" } : Jvm.MethodName)),
  (Jvm.Cond.castable "java/util/ArrayDeque" "java/util/Collection"),
  (Jvm.Cond.castable "java/util/ArrayList" "java/util/Collection"),
  (Jvm.Cond.castable "java/util/Collections$CopiesList" "java/util/Collection"),
  (Jvm.Cond.castable "java/util/ImmutableCollections$ListN" "java/util/Collection"),
  (Jvm.Cond.castable "java/util/LinkedList" "java/util/Collection"),
  (Jvm.Cond.declares ({ cls := "java/lang/Object", name := "getClass", desc := "()Ljava/lang/Class;" } : Jvm.MethodName)),
  (Jvm.Cond.declares ({ cls := "java/util/List", name := "set", desc := "(ILjava/lang/Object;)Ljava/lang/Object;" } : Jvm.MethodName)),
  (Jvm.Cond.declares ({ cls := "java/util/Collection", name := "iterator", desc := "()Ljava/util/Iterator;" } : Jvm.MethodName)),
  (Jvm.Cond.declares ({ cls := "java/lang/Comparable", name := "compareTo", desc := "(Ljava/lang/Object;)I" } : Jvm.MethodName)),
  (Jvm.Cond.castable "java/lang/Integer" "java/lang/Comparable"),
  (Jvm.Cond.declares ({ cls := "java/util/List", name := "indexOf", desc := "(Ljava/lang/Object;)I" } : Jvm.MethodName)),
  (Jvm.Cond.declares ({ cls := "java/lang/Object", name := "equals", desc := "(Ljava/lang/Object;)Z" } : Jvm.MethodName)),
  (Jvm.Cond.declares ({ cls := "java/util/AbstractCollection", name := "isEmpty", desc := "()Z" } : Jvm.MethodName)),
  (Jvm.Cond.declares ({ cls := "LineRemarks$Remark", name := "weighing", desc := "(ILLineRemarks$Trace;)I" } : Jvm.MethodName)),
  (Jvm.Cond.declares ({ cls := "LineRemarks$Remark", name := "clinging", desc := "(ILLineRemarks$Trace;)I" } : Jvm.MethodName)),
  (Jvm.Cond.castable "java/lang/ArrayIndexOutOfBoundsException" "java/lang/IndexOutOfBoundsException"),
  (Jvm.Cond.castable "LineRemarks$Bytes" "LineRemarks$Row"),
  (Jvm.Cond.castable "LineRemarks$Ints" "LineRemarks$Row"),
  (Jvm.Cond.castable "LineRemarks$Longs" "LineRemarks$Row"),
  (Jvm.Cond.castable "LineRemarks$Shorts" "LineRemarks$Row"),
  (Jvm.Cond.castable "LineRemarks$Block" "LineRemarks$Remark"),
  (Jvm.Cond.castable "LineRemarks$Caret" "LineRemarks$Remark"),
  (Jvm.Cond.castable "LineRemarks$Loose" "LineRemarks$Remark"),
  (Jvm.Cond.castable "LineRemarks$Point" "LineRemarks$Remark"),
  (Jvm.Cond.castable "LineRemarks$Tail" "LineRemarks$Remark"),
  (Jvm.Cond.castable "LineRemarks$Wall" "LineRemarks$Remark"),
  (Jvm.Cond.castable "LineRemarks$Caret" "LineRemarks$Point"),
  (Jvm.Cond.castable "LineRemarks$Tail" "LineRemarks$Point"),
  (Jvm.Cond.castable "LineRemarks$Wall" "LineRemarks$Block"),
  (Jvm.Cond.castable "LineRemarks$Tail" "LineRemarks$Caret"),
  (Jvm.Cond.castable "LineRemarks$Shelf" "java/lang/Object"),
  (Jvm.Cond.castable "LineRemarks$Revision" "java/lang/Object"),
  (Jvm.Cond.castable "LineRemarks$Remark" "java/lang/Object"),
  (Jvm.Cond.castable "LineRemarks$Line" "java/lang/Object"),
  (Jvm.Cond.castable "LineRemarks" "java/lang/Object"),
  (Jvm.Cond.castable "LineRemarks$Trace" "java/lang/Object"),
  (Jvm.Cond.castable "java/lang/Integer" "java/lang/Object"),
  (Jvm.Cond.castable "java/util/ImmutableCollections$ListN" "java/lang/Object"),
  (Jvm.Cond.castable "LineRemarks$World" "java/lang/Object"),
  (Jvm.Cond.castable "LineRemarksModel" "java/lang/Object"),
  (Jvm.Cond.castable "java/lang/ArrayIndexOutOfBoundsException" "java/lang/Object"),
  (Jvm.Cond.castable "LineRemarks$Refused" "java/lang/Object"),
  (Jvm.Cond.castable "java/lang/NegativeArraySizeException" "java/lang/Object"),
  (Jvm.Cond.castable "LineRemarks$Bytes" "java/lang/Object"),
  (Jvm.Cond.castable "LineRemarks$Shorts" "java/lang/Object"),
  (Jvm.Cond.castable "LineRemarks$Ints" "java/lang/Object"),
  (Jvm.Cond.castable "LineRemarks$Longs" "java/lang/Object"),
  (Jvm.Cond.castable "java/lang/ClassCastException" "java/lang/Object"),
  (Jvm.Cond.castable "LineRemarks$Reader" "java/lang/Object"),
  (Jvm.Cond.castable "java/util/ArrayList" "java/lang/Object"),
  (Jvm.Cond.castable "LineRemarks$Faulty" "java/lang/Object"),
  (Jvm.Cond.castable "java/util/ArrayList$Itr" "java/lang/Object"),
  (Jvm.Cond.castable "java/util/ImmutableCollections$ListItr" "java/lang/Object"),
  (Jvm.Cond.castable "java/lang/IndexOutOfBoundsException" "java/lang/Object"),
  (Jvm.Cond.castable "LineRemarks$Match" "java/lang/Object"),
  (Jvm.Cond.castable "java/util/BitSet" "java/lang/Object"),
  (Jvm.Cond.castable "java/util/ArrayDeque" "java/lang/Object"),
  (Jvm.Cond.castable "java/util/ArrayDeque$DeqIterator" "java/lang/Object"),
  (Jvm.Cond.castable "LineRemarks$Point" "java/lang/Object"),
  (Jvm.Cond.castable "LineRemarks$Block" "java/lang/Object"),
  (Jvm.Cond.castable "LineRemarks$Caret" "java/lang/Object"),
  (Jvm.Cond.castable "LineRemarks$Loose" "java/lang/Object"),
  (Jvm.Cond.castable "LineRemarks$Wall" "java/lang/Object"),
  (Jvm.Cond.castable "LineRemarks$Tail" "java/lang/Object"),
  (Jvm.Cond.castable "LineRemarks$Walk" "java/lang/Object"),
  (Jvm.Cond.castable "LineRemarks$Span" "java/lang/Object"),
  (Jvm.Cond.castable "LineRemarks$Context" "java/lang/Object"),
  (Jvm.Cond.castable "java/util/LinkedList" "java/lang/Object"),
  (Jvm.Cond.castable "LineRemarks$Put" "java/lang/Object"),
  (Jvm.Cond.castable "java/util/LinkedList$Node" "java/lang/Object"),
  (Jvm.Cond.castable "java/util/LinkedList$ListItr" "java/lang/Object"),
  (Jvm.Cond.castable "java/util/Collections$CopiesList" "java/lang/Object"),
  (Jvm.Cond.castable "java/lang/Throwable" "java/lang/Object"),
  (Jvm.Cond.castable "[LLineRemarks$Shelf;" "java/lang/Object"),
  (Jvm.Cond.castable "[I" "java/lang/Object"),
  (Jvm.Cond.castable "[Ljava/lang/Object;" "java/lang/Object"),
  (Jvm.Cond.castable "[LLineRemarks$Revision;" "java/lang/Object"),
  (Jvm.Cond.castable "[LLineRemarks$Remark;" "java/lang/Object"),
  (Jvm.Cond.castable "[Z" "java/lang/Object"),
  (Jvm.Cond.castable "[B" "java/lang/Object"),
  (Jvm.Cond.castable "[S" "java/lang/Object"),
  (Jvm.Cond.castable "[J" "java/lang/Object"),
  (Jvm.Cond.castable "[C" "java/lang/Object"),
  (Jvm.Cond.castable "[LLineRemarks$Line;" "java/lang/Object"),
  (Jvm.Cond.castable "[[I" "java/lang/Object")]
def gNk (w : Cond) : Bool := match w with
  | .castable _ _ => true
  | .declares _ => true
  | .fieldLinkNest _ _ _ _ _ _ => true
  | .methodLinkNest _ _ _ _ => true
  | _ => false
theorem gNk_warm {w : Cond} (h : gNk w = true) {s U : State} (hW : s.WarmedH U.vm) (hz : va_Nw w s) : va_Nw w U := by
  cases w <;> first
    | exact va_Nw.warmC hW hz
    | exact va_Nw.warmD hW hz
    | exact va_Nw.warmF hW hz
    | exact va_Nw.warmM hW hz
    | exact absurd h (by simp [gNk])
theorem gNWs_ok : ∀ w ∈ gNWs, gNk w = true := List.all_eq_true.mp (by decide +kernel)
theorem gNWs_tab : ∀ w ∈ gNWs, w.onTables = true := List.all_eq_true.mp (by decide +kernel)
def gNWp : List Nat := [312, 472, 473, 474, 475, 476, 477, 478, 479, 480, 498, 542, 613, 620, 645, 660, 682, 764, 804, 841, 872, 873, 916, 924, 946, 1029, 1256, 1259, 1268, 1298, 1388, 1474, 1485, 1491, 1500, 1506, 1515, 1528, 1660, 1674, 1862, 2320, 2544, 2550, 2677, 2678, 2692, 2698, 2728, 2735, 2745, 2763, 2792, 2809, 2810, 2999, 3009, 3150, 3232, 3254, 3781, 3782, 3783, 3784, 3785, 3786, 3787, 3788, 3789, 3790, 3791, 3792, 3793, 3794, 3795, 3796, 3797, 3798, 3799, 3800, 3801, 3802, 3803, 3805, 3806, 3807, 3808, 3809, 3810, 3811, 3812, 3813, 3814, 3815, 3816, 3817, 3818, 3819, 3820, 3824, 3825, 3826, 3827, 3828, 3829, 3830, 3831, 3832, 3833, 3834, 3835, 3836, 3837, 3838, 3839, 3842, 3845, 3848, 3851, 3852, 3853, 3854, 3855, 3856, 3857, 3858, 3859, 3860, 3861, 3862]
theorem gNWs_tbl : ∀ w ∈ gNWs, w ∈ lw_tbl := by
  refine List.forall_mem_cons.mpr ⟨q312, List.forall_mem_cons.mpr ⟨q472, List.forall_mem_cons.mpr ⟨q473, List.forall_mem_cons.mpr ⟨q474, List.forall_mem_cons.mpr ⟨q475, List.forall_mem_cons.mpr ⟨q476, List.forall_mem_cons.mpr ⟨q477, List.forall_mem_cons.mpr ⟨q478, List.forall_mem_cons.mpr ⟨q479, List.forall_mem_cons.mpr ⟨q480, List.forall_mem_cons.mpr ⟨q498, List.forall_mem_cons.mpr ⟨q542, List.forall_mem_cons.mpr ⟨q613, List.forall_mem_cons.mpr ⟨q620, List.forall_mem_cons.mpr ⟨q645, List.forall_mem_cons.mpr ⟨q660, List.forall_mem_cons.mpr ⟨q682, List.forall_mem_cons.mpr ⟨q764, List.forall_mem_cons.mpr ⟨q804, List.forall_mem_cons.mpr ⟨q841, List.forall_mem_cons.mpr ⟨q872, List.forall_mem_cons.mpr ⟨q873, List.forall_mem_cons.mpr ⟨q916, List.forall_mem_cons.mpr ⟨q924, List.forall_mem_cons.mpr ⟨q946, List.forall_mem_cons.mpr ⟨q1029, List.forall_mem_cons.mpr ⟨q1256, List.forall_mem_cons.mpr ⟨q1259, List.forall_mem_cons.mpr ⟨q1268, List.forall_mem_cons.mpr ⟨q1298, List.forall_mem_cons.mpr ⟨q1388, List.forall_mem_cons.mpr ⟨q1474, List.forall_mem_cons.mpr ⟨q1485, List.forall_mem_cons.mpr ⟨q1491, List.forall_mem_cons.mpr ⟨q1500, List.forall_mem_cons.mpr ⟨q1506, List.forall_mem_cons.mpr ⟨q1515, List.forall_mem_cons.mpr ⟨q1528, List.forall_mem_cons.mpr ⟨q1660, List.forall_mem_cons.mpr ⟨q1674, List.forall_mem_cons.mpr ⟨q1862, List.forall_mem_cons.mpr ⟨q2320, List.forall_mem_cons.mpr ⟨q2544, List.forall_mem_cons.mpr ⟨q2550, List.forall_mem_cons.mpr ⟨q2677, List.forall_mem_cons.mpr ⟨q2678, List.forall_mem_cons.mpr ⟨q2692, List.forall_mem_cons.mpr ⟨q2698, List.forall_mem_cons.mpr ⟨q2728, List.forall_mem_cons.mpr ⟨q2735, List.forall_mem_cons.mpr ⟨q2745, List.forall_mem_cons.mpr ⟨q2763, List.forall_mem_cons.mpr ⟨q2792, List.forall_mem_cons.mpr ⟨q2809, List.forall_mem_cons.mpr ⟨q2810, List.forall_mem_cons.mpr ⟨q2999, List.forall_mem_cons.mpr ⟨q3009, List.forall_mem_cons.mpr ⟨q3150, List.forall_mem_cons.mpr ⟨q3232, List.forall_mem_cons.mpr ⟨q3254, List.forall_mem_cons.mpr ⟨q3781, List.forall_mem_cons.mpr ⟨q3782, List.forall_mem_cons.mpr ⟨q3783, List.forall_mem_cons.mpr ⟨q3784, List.forall_mem_cons.mpr ⟨q3785, List.forall_mem_cons.mpr ⟨q3786, List.forall_mem_cons.mpr ⟨q3787, List.forall_mem_cons.mpr ⟨q3788, List.forall_mem_cons.mpr ⟨q3789, List.forall_mem_cons.mpr ⟨q3790, List.forall_mem_cons.mpr ⟨q3791, List.forall_mem_cons.mpr ⟨q3792, List.forall_mem_cons.mpr ⟨q3793, List.forall_mem_cons.mpr ⟨q3794, List.forall_mem_cons.mpr ⟨q3795, List.forall_mem_cons.mpr ⟨q3796, List.forall_mem_cons.mpr ⟨q3797, List.forall_mem_cons.mpr ⟨q3798, List.forall_mem_cons.mpr ⟨q3799, List.forall_mem_cons.mpr ⟨q3800, List.forall_mem_cons.mpr ⟨q3801, List.forall_mem_cons.mpr ⟨q3802, List.forall_mem_cons.mpr ⟨q3803, List.forall_mem_cons.mpr ⟨q3805, List.forall_mem_cons.mpr ⟨q3806, List.forall_mem_cons.mpr ⟨q3807, List.forall_mem_cons.mpr ⟨q3808, List.forall_mem_cons.mpr ⟨q3809, List.forall_mem_cons.mpr ⟨q3810, List.forall_mem_cons.mpr ⟨q3811, List.forall_mem_cons.mpr ⟨q3812, List.forall_mem_cons.mpr ⟨q3813, List.forall_mem_cons.mpr ⟨q3814, List.forall_mem_cons.mpr ⟨q3815, List.forall_mem_cons.mpr ⟨q3816, List.forall_mem_cons.mpr ⟨q3817, List.forall_mem_cons.mpr ⟨q3818, List.forall_mem_cons.mpr ⟨q3819, List.forall_mem_cons.mpr ⟨q3820, List.forall_mem_cons.mpr ⟨q3824, List.forall_mem_cons.mpr ⟨q3825, List.forall_mem_cons.mpr ⟨q3826, List.forall_mem_cons.mpr ⟨q3827, List.forall_mem_cons.mpr ⟨q3828, List.forall_mem_cons.mpr ⟨q3829, List.forall_mem_cons.mpr ⟨q3830, List.forall_mem_cons.mpr ⟨q3831, List.forall_mem_cons.mpr ⟨q3832, List.forall_mem_cons.mpr ⟨q3833, List.forall_mem_cons.mpr ⟨q3834, List.forall_mem_cons.mpr ⟨q3835, List.forall_mem_cons.mpr ⟨q3836, List.forall_mem_cons.mpr ⟨q3837, List.forall_mem_cons.mpr ⟨q3838, List.forall_mem_cons.mpr ⟨q3839, List.forall_mem_cons.mpr ⟨q3842, List.forall_mem_cons.mpr ⟨q3845, List.forall_mem_cons.mpr ⟨q3848, List.forall_mem_cons.mpr ⟨q3851, List.forall_mem_cons.mpr ⟨q3852, List.forall_mem_cons.mpr ⟨q3853, List.forall_mem_cons.mpr ⟨q3854, List.forall_mem_cons.mpr ⟨q3855, List.forall_mem_cons.mpr ⟨q3856, List.forall_mem_cons.mpr ⟨q3857, List.forall_mem_cons.mpr ⟨q3858, List.forall_mem_cons.mpr ⟨q3859, List.forall_mem_cons.mpr ⟨q3860, List.forall_mem_cons.mpr ⟨q3861, List.forall_mem_cons.mpr ⟨q3862, fun _ h => absurd h List.not_mem_nil⟩⟩⟩⟩⟩⟩⟩⟩⟩⟩⟩⟩⟩⟩⟩⟩⟩⟩⟩⟩⟩⟩⟩⟩⟩⟩⟩⟩⟩⟩⟩⟩⟩⟩⟩⟩⟩⟩⟩⟩⟩⟩⟩⟩⟩⟩⟩⟩⟩⟩⟩⟩⟩⟩⟩⟩⟩⟩⟩⟩⟩⟩⟩⟩⟩⟩⟩⟩⟩⟩⟩⟩⟩⟩⟩⟩⟩⟩⟩⟩⟩⟩⟩⟩⟩⟩⟩⟩⟩⟩⟩⟩⟩⟩⟩⟩⟩⟩⟩⟩⟩⟩⟩⟩⟩⟩⟩⟩⟩⟩⟩⟩⟩⟩⟩⟩⟩⟩⟩⟩⟩⟩⟩⟩⟩⟩⟩⟩⟩⟩
theorem qn312 : (Jvm.Cond.methodLinkNest "java/util/ImmutableCollections" (43 : Nat) ({ cls := "java/util/ImmutableCollections$ListN", name := "<init>", desc := "([Ljava/lang/Object;Z)V" } : Jvm.MethodName) "java/util/ImmutableCollections") ∈ gNWs := List.mem_of_getElem? (i := 0) rfl
theorem qn472 : (Jvm.Cond.castable "java/lang/ArrayIndexOutOfBoundsException" "java/lang/ArrayIndexOutOfBoundsException") ∈ gNWs := List.mem_of_getElem? (i := 1) rfl
theorem qn473 : (Jvm.Cond.declares ({ cls := "java/lang/IndexOutOfBoundsException", name := "<init>", desc := "()V" } : Jvm.MethodName)) ∈ gNWs := List.mem_of_getElem? (i := 2) rfl
theorem qn474 : (Jvm.Cond.declares ({ cls := "java/lang/IndexOutOfBoundsException", name := "<init>", desc := "(Ljava/lang/String;)V" } : Jvm.MethodName)) ∈ gNWs := List.mem_of_getElem? (i := 3) rfl
theorem qn475 : (Jvm.Cond.declares ({ cls := "java/lang/RuntimeException", name := "<init>", desc := "()V" } : Jvm.MethodName)) ∈ gNWs := List.mem_of_getElem? (i := 4) rfl
theorem qn476 : (Jvm.Cond.declares ({ cls := "java/lang/RuntimeException", name := "<init>", desc := "(Ljava/lang/String;)V" } : Jvm.MethodName)) ∈ gNWs := List.mem_of_getElem? (i := 5) rfl
theorem qn477 : (Jvm.Cond.declares ({ cls := "java/lang/Exception", name := "<init>", desc := "()V" } : Jvm.MethodName)) ∈ gNWs := List.mem_of_getElem? (i := 6) rfl
theorem qn478 : (Jvm.Cond.declares ({ cls := "java/lang/Exception", name := "<init>", desc := "(Ljava/lang/String;)V" } : Jvm.MethodName)) ∈ gNWs := List.mem_of_getElem? (i := 7) rfl
theorem qn479 : (Jvm.Cond.declares ({ cls := "java/lang/Throwable", name := "<init>", desc := "()V" } : Jvm.MethodName)) ∈ gNWs := List.mem_of_getElem? (i := 8) rfl
theorem qn480 : (Jvm.Cond.declares ({ cls := "java/lang/Throwable", name := "<init>", desc := "(Ljava/lang/String;)V" } : Jvm.MethodName)) ∈ gNWs := List.mem_of_getElem? (i := 9) rfl
theorem qn498 : (Jvm.Cond.castable "LineRemarks$Refused" "LineRemarks$Refused") ∈ gNWs := List.mem_of_getElem? (i := 10) rfl
theorem qn542 : (Jvm.Cond.castable "java/lang/NegativeArraySizeException" "java/lang/NegativeArraySizeException") ∈ gNWs := List.mem_of_getElem? (i := 11) rfl
theorem qn613 : (Jvm.Cond.castable "java/lang/ClassCastException" "java/lang/ClassCastException") ∈ gNWs := List.mem_of_getElem? (i := 12) rfl
theorem qn620 : (Jvm.Cond.declares ({ cls := "LineRemarks$Row", name := "put", desc := "(IJ)V" } : Jvm.MethodName)) ∈ gNWs := List.mem_of_getElem? (i := 13) rfl
theorem qn645 : (Jvm.Cond.declares ({ cls := "LineRemarks$Row", name := "sort", desc := "()I" } : Jvm.MethodName)) ∈ gNWs := List.mem_of_getElem? (i := 14) rfl
theorem qn660 : (Jvm.Cond.declares ({ cls := "LineRemarks$Row", name := "held", desc := "()Ljava/lang/Object;" } : Jvm.MethodName)) ∈ gNWs := List.mem_of_getElem? (i := 15) rfl
theorem qn682 : (Jvm.Cond.declares ({ cls := "LineRemarks$Row", name := "get", desc := "(I)J" } : Jvm.MethodName)) ∈ gNWs := List.mem_of_getElem? (i := 16) rfl
theorem qn764 : (Jvm.Cond.fieldLinkNest "java/util/ArrayList$Itr" (28 : Nat) "java/util/ArrayList" "size" "I" "java/util/ArrayList") ∈ gNWs := List.mem_of_getElem? (i := 17) rfl
theorem qn804 : (Jvm.Cond.declares ({ cls := "LineRemarks$Row", name := "length", desc := "()I" } : Jvm.MethodName)) ∈ gNWs := List.mem_of_getElem? (i := 18) rfl
theorem qn841 : (Jvm.Cond.castable "LineRemarks$Faulty" "LineRemarks$Faulty") ∈ gNWs := List.mem_of_getElem? (i := 19) rfl
theorem qn872 : (Jvm.Cond.declares ({ cls := "java/util/List", name := "add", desc := "(Ljava/lang/Object;)Z" } : Jvm.MethodName)) ∈ gNWs := List.mem_of_getElem? (i := 20) rfl
theorem qn873 : (Jvm.Cond.castable "java/util/ArrayList" "java/util/List") ∈ gNWs := List.mem_of_getElem? (i := 21) rfl
theorem qn916 : (Jvm.Cond.castable "java/util/Collections$CopiesList" "java/util/List") ∈ gNWs := List.mem_of_getElem? (i := 22) rfl
theorem qn924 : (Jvm.Cond.declares ({ cls := "java/util/AbstractCollection", name := "size", desc := "()I" } : Jvm.MethodName)) ∈ gNWs := List.mem_of_getElem? (i := 23) rfl
theorem qn946 : (Jvm.Cond.castable "java/lang/IndexOutOfBoundsException" "java/lang/IndexOutOfBoundsException") ∈ gNWs := List.mem_of_getElem? (i := 24) rfl
theorem qn1029 : (Jvm.Cond.castable "[B" "java/lang/Cloneable") ∈ gNWs := List.mem_of_getElem? (i := 25) rfl
theorem qn1256 : (Jvm.Cond.castable "java/util/ImmutableCollections$ListN" "java/util/List") ∈ gNWs := List.mem_of_getElem? (i := 26) rfl
theorem qn1259 : (Jvm.Cond.castable "java/util/LinkedList" "java/util/List") ∈ gNWs := List.mem_of_getElem? (i := 27) rfl
theorem qn1268 : (Jvm.Cond.declares ({ cls := "java/util/List", name := "size", desc := "()I" } : Jvm.MethodName)) ∈ gNWs := List.mem_of_getElem? (i := 28) rfl
theorem qn1298 : (Jvm.Cond.declares ({ cls := "java/util/List", name := "iterator", desc := "()Ljava/util/Iterator;" } : Jvm.MethodName)) ∈ gNWs := List.mem_of_getElem? (i := 29) rfl
theorem qn1388 : (Jvm.Cond.declares ({ cls := "java/util/AbstractList", name := "listIterator", desc := "()Ljava/util/ListIterator;" } : Jvm.MethodName)) ∈ gNWs := List.mem_of_getElem? (i := 30) rfl
theorem qn1474 : (Jvm.Cond.declares ({ cls := "java/util/Iterator", name := "hasNext", desc := "()Z" } : Jvm.MethodName)) ∈ gNWs := List.mem_of_getElem? (i := 31) rfl
theorem qn1485 : (Jvm.Cond.castable "java/util/ArrayDeque$DeqIterator" "java/util/Iterator") ∈ gNWs := List.mem_of_getElem? (i := 32) rfl
theorem qn1491 : (Jvm.Cond.castable "java/util/ArrayList$Itr" "java/util/Iterator") ∈ gNWs := List.mem_of_getElem? (i := 33) rfl
theorem qn1500 : (Jvm.Cond.castable "java/util/ImmutableCollections$ListItr" "java/util/Iterator") ∈ gNWs := List.mem_of_getElem? (i := 34) rfl
theorem qn1506 : (Jvm.Cond.castable "java/util/LinkedList$ListItr" "java/util/Iterator") ∈ gNWs := List.mem_of_getElem? (i := 35) rfl
theorem qn1515 : (Jvm.Cond.declares ({ cls := "java/util/Iterator", name := "next", desc := "()Ljava/lang/Object;" } : Jvm.MethodName)) ∈ gNWs := List.mem_of_getElem? (i := 36) rfl
theorem qn1528 : (Jvm.Cond.declares ({ cls := "java/util/AbstractList", name := "get", desc := "(I)Ljava/lang/Object;" } : Jvm.MethodName)) ∈ gNWs := List.mem_of_getElem? (i := 37) rfl
theorem qn1660 : (Jvm.Cond.declares ({ cls := "java/util/List", name := "get", desc := "(I)Ljava/lang/Object;" } : Jvm.MethodName)) ∈ gNWs := List.mem_of_getElem? (i := 38) rfl
theorem qn1674 : (Jvm.Cond.declares ({ cls := "java/util/ImmutableCollections$AbstractImmutableList", name := "outOfBounds", desc := "(I)Ljava/lang/IndexOutOfBoundsException;" } : Jvm.MethodName)) ∈ gNWs := List.mem_of_getElem? (i := 39) rfl
theorem qn1862 : (Jvm.Cond.castable "[J" "java/lang/Cloneable") ∈ gNWs := List.mem_of_getElem? (i := 40) rfl
theorem qn2320 : (Jvm.Cond.fieldLinkNest "LineRemarks$Walk" (79 : Nat) "LineRemarks$Context" "lines" "[LLineRemarks$Line;" "LineRemarks") ∈ gNWs := List.mem_of_getElem? (i := 41) rfl
theorem qn2544 : (Jvm.Cond.declares ({ cls := "java/util/AbstractSequentialList", name := "iterator", desc := "()Ljava/util/Iterator;" } : Jvm.MethodName)) ∈ gNWs := List.mem_of_getElem? (i := 42) rfl
theorem qn2550 : (Jvm.Cond.declares ({ cls := "java/util/Iterator", name := "remove", desc := "()V" } : Jvm.MethodName)) ∈ gNWs := List.mem_of_getElem? (i := 43) rfl
theorem qn2677 : (Jvm.Cond.declares ({ cls := "java/util/Collection", name := "toArray", desc := "()[Ljava/lang/Object;" } : Jvm.MethodName)) ∈ gNWs := List.mem_of_getElem? (i := 44) rfl
theorem qn2678 : (Jvm.Cond.castable "java/util/ArrayDeque" "java/util/Collection") ∈ gNWs := List.mem_of_getElem? (i := 45) rfl
theorem qn2692 : (Jvm.Cond.castable "java/util/ArrayList" "java/util/Collection") ∈ gNWs := List.mem_of_getElem? (i := 46) rfl
theorem qn2698 : (Jvm.Cond.castable "java/util/Collections$CopiesList" "java/util/Collection") ∈ gNWs := List.mem_of_getElem? (i := 47) rfl
theorem qn2728 : (Jvm.Cond.castable "java/util/ImmutableCollections$ListN" "java/util/Collection") ∈ gNWs := List.mem_of_getElem? (i := 48) rfl
theorem qn2735 : (Jvm.Cond.castable "java/util/LinkedList" "java/util/Collection") ∈ gNWs := List.mem_of_getElem? (i := 49) rfl
theorem qn2745 : (Jvm.Cond.declares ({ cls := "java/lang/Object", name := "getClass", desc := "()Ljava/lang/Class;" } : Jvm.MethodName)) ∈ gNWs := List.mem_of_getElem? (i := 50) rfl
theorem qn2763 : (Jvm.Cond.declares ({ cls := "java/util/List", name := "set", desc := "(ILjava/lang/Object;)Ljava/lang/Object;" } : Jvm.MethodName)) ∈ gNWs := List.mem_of_getElem? (i := 51) rfl
theorem qn2792 : (Jvm.Cond.declares ({ cls := "java/util/Collection", name := "iterator", desc := "()Ljava/util/Iterator;" } : Jvm.MethodName)) ∈ gNWs := List.mem_of_getElem? (i := 52) rfl
theorem qn2809 : (Jvm.Cond.declares ({ cls := "java/lang/Comparable", name := "compareTo", desc := "(Ljava/lang/Object;)I" } : Jvm.MethodName)) ∈ gNWs := List.mem_of_getElem? (i := 53) rfl
theorem qn2810 : (Jvm.Cond.castable "java/lang/Integer" "java/lang/Comparable") ∈ gNWs := List.mem_of_getElem? (i := 54) rfl
theorem qn2999 : (Jvm.Cond.declares ({ cls := "java/util/List", name := "indexOf", desc := "(Ljava/lang/Object;)I" } : Jvm.MethodName)) ∈ gNWs := List.mem_of_getElem? (i := 55) rfl
theorem qn3009 : (Jvm.Cond.declares ({ cls := "java/lang/Object", name := "equals", desc := "(Ljava/lang/Object;)Z" } : Jvm.MethodName)) ∈ gNWs := List.mem_of_getElem? (i := 56) rfl
theorem qn3150 : (Jvm.Cond.declares ({ cls := "java/util/AbstractCollection", name := "isEmpty", desc := "()Z" } : Jvm.MethodName)) ∈ gNWs := List.mem_of_getElem? (i := 57) rfl
theorem qn3232 : (Jvm.Cond.declares ({ cls := "LineRemarks$Remark", name := "weighing", desc := "(ILLineRemarks$Trace;)I" } : Jvm.MethodName)) ∈ gNWs := List.mem_of_getElem? (i := 58) rfl
theorem qn3254 : (Jvm.Cond.declares ({ cls := "LineRemarks$Remark", name := "clinging", desc := "(ILLineRemarks$Trace;)I" } : Jvm.MethodName)) ∈ gNWs := List.mem_of_getElem? (i := 59) rfl
theorem qn3781 : (Jvm.Cond.castable "java/lang/ArrayIndexOutOfBoundsException" "java/lang/IndexOutOfBoundsException") ∈ gNWs := List.mem_of_getElem? (i := 60) rfl
theorem qn3782 : (Jvm.Cond.castable "LineRemarks$Bytes" "LineRemarks$Row") ∈ gNWs := List.mem_of_getElem? (i := 61) rfl
theorem qn3783 : (Jvm.Cond.castable "LineRemarks$Ints" "LineRemarks$Row") ∈ gNWs := List.mem_of_getElem? (i := 62) rfl
theorem qn3784 : (Jvm.Cond.castable "LineRemarks$Longs" "LineRemarks$Row") ∈ gNWs := List.mem_of_getElem? (i := 63) rfl
theorem qn3785 : (Jvm.Cond.castable "LineRemarks$Shorts" "LineRemarks$Row") ∈ gNWs := List.mem_of_getElem? (i := 64) rfl
theorem qn3786 : (Jvm.Cond.castable "LineRemarks$Block" "LineRemarks$Remark") ∈ gNWs := List.mem_of_getElem? (i := 65) rfl
theorem qn3787 : (Jvm.Cond.castable "LineRemarks$Caret" "LineRemarks$Remark") ∈ gNWs := List.mem_of_getElem? (i := 66) rfl
theorem qn3788 : (Jvm.Cond.castable "LineRemarks$Loose" "LineRemarks$Remark") ∈ gNWs := List.mem_of_getElem? (i := 67) rfl
theorem qn3789 : (Jvm.Cond.castable "LineRemarks$Point" "LineRemarks$Remark") ∈ gNWs := List.mem_of_getElem? (i := 68) rfl
theorem qn3790 : (Jvm.Cond.castable "LineRemarks$Tail" "LineRemarks$Remark") ∈ gNWs := List.mem_of_getElem? (i := 69) rfl
theorem qn3791 : (Jvm.Cond.castable "LineRemarks$Wall" "LineRemarks$Remark") ∈ gNWs := List.mem_of_getElem? (i := 70) rfl
theorem qn3792 : (Jvm.Cond.castable "LineRemarks$Caret" "LineRemarks$Point") ∈ gNWs := List.mem_of_getElem? (i := 71) rfl
theorem qn3793 : (Jvm.Cond.castable "LineRemarks$Tail" "LineRemarks$Point") ∈ gNWs := List.mem_of_getElem? (i := 72) rfl
theorem qn3794 : (Jvm.Cond.castable "LineRemarks$Wall" "LineRemarks$Block") ∈ gNWs := List.mem_of_getElem? (i := 73) rfl
theorem qn3795 : (Jvm.Cond.castable "LineRemarks$Tail" "LineRemarks$Caret") ∈ gNWs := List.mem_of_getElem? (i := 74) rfl
theorem qn3796 : (Jvm.Cond.castable "LineRemarks$Shelf" "java/lang/Object") ∈ gNWs := List.mem_of_getElem? (i := 75) rfl
theorem qn3797 : (Jvm.Cond.castable "LineRemarks$Revision" "java/lang/Object") ∈ gNWs := List.mem_of_getElem? (i := 76) rfl
theorem qn3798 : (Jvm.Cond.castable "LineRemarks$Remark" "java/lang/Object") ∈ gNWs := List.mem_of_getElem? (i := 77) rfl
theorem qn3799 : (Jvm.Cond.castable "LineRemarks$Line" "java/lang/Object") ∈ gNWs := List.mem_of_getElem? (i := 78) rfl
theorem qn3800 : (Jvm.Cond.castable "LineRemarks" "java/lang/Object") ∈ gNWs := List.mem_of_getElem? (i := 79) rfl
theorem qn3801 : (Jvm.Cond.castable "LineRemarks$Trace" "java/lang/Object") ∈ gNWs := List.mem_of_getElem? (i := 80) rfl
theorem qn3802 : (Jvm.Cond.castable "java/lang/Integer" "java/lang/Object") ∈ gNWs := List.mem_of_getElem? (i := 81) rfl
theorem qn3803 : (Jvm.Cond.castable "java/util/ImmutableCollections$ListN" "java/lang/Object") ∈ gNWs := List.mem_of_getElem? (i := 82) rfl
theorem qn3805 : (Jvm.Cond.castable "LineRemarks$World" "java/lang/Object") ∈ gNWs := List.mem_of_getElem? (i := 83) rfl
theorem qn3806 : (Jvm.Cond.castable "LineRemarksModel" "java/lang/Object") ∈ gNWs := List.mem_of_getElem? (i := 84) rfl
theorem qn3807 : (Jvm.Cond.castable "java/lang/ArrayIndexOutOfBoundsException" "java/lang/Object") ∈ gNWs := List.mem_of_getElem? (i := 85) rfl
theorem qn3808 : (Jvm.Cond.castable "LineRemarks$Refused" "java/lang/Object") ∈ gNWs := List.mem_of_getElem? (i := 86) rfl
theorem qn3809 : (Jvm.Cond.castable "java/lang/NegativeArraySizeException" "java/lang/Object") ∈ gNWs := List.mem_of_getElem? (i := 87) rfl
theorem qn3810 : (Jvm.Cond.castable "LineRemarks$Bytes" "java/lang/Object") ∈ gNWs := List.mem_of_getElem? (i := 88) rfl
theorem qn3811 : (Jvm.Cond.castable "LineRemarks$Shorts" "java/lang/Object") ∈ gNWs := List.mem_of_getElem? (i := 89) rfl
theorem qn3812 : (Jvm.Cond.castable "LineRemarks$Ints" "java/lang/Object") ∈ gNWs := List.mem_of_getElem? (i := 90) rfl
theorem qn3813 : (Jvm.Cond.castable "LineRemarks$Longs" "java/lang/Object") ∈ gNWs := List.mem_of_getElem? (i := 91) rfl
theorem qn3814 : (Jvm.Cond.castable "java/lang/ClassCastException" "java/lang/Object") ∈ gNWs := List.mem_of_getElem? (i := 92) rfl
theorem qn3815 : (Jvm.Cond.castable "LineRemarks$Reader" "java/lang/Object") ∈ gNWs := List.mem_of_getElem? (i := 93) rfl
theorem qn3816 : (Jvm.Cond.castable "java/util/ArrayList" "java/lang/Object") ∈ gNWs := List.mem_of_getElem? (i := 94) rfl
theorem qn3817 : (Jvm.Cond.castable "LineRemarks$Faulty" "java/lang/Object") ∈ gNWs := List.mem_of_getElem? (i := 95) rfl
theorem qn3818 : (Jvm.Cond.castable "java/util/ArrayList$Itr" "java/lang/Object") ∈ gNWs := List.mem_of_getElem? (i := 96) rfl
theorem qn3819 : (Jvm.Cond.castable "java/util/ImmutableCollections$ListItr" "java/lang/Object") ∈ gNWs := List.mem_of_getElem? (i := 97) rfl
theorem qn3820 : (Jvm.Cond.castable "java/lang/IndexOutOfBoundsException" "java/lang/Object") ∈ gNWs := List.mem_of_getElem? (i := 98) rfl
theorem qn3824 : (Jvm.Cond.castable "LineRemarks$Match" "java/lang/Object") ∈ gNWs := List.mem_of_getElem? (i := 99) rfl
theorem qn3825 : (Jvm.Cond.castable "java/util/BitSet" "java/lang/Object") ∈ gNWs := List.mem_of_getElem? (i := 100) rfl
theorem qn3826 : (Jvm.Cond.castable "java/util/ArrayDeque" "java/lang/Object") ∈ gNWs := List.mem_of_getElem? (i := 101) rfl
theorem qn3827 : (Jvm.Cond.castable "java/util/ArrayDeque$DeqIterator" "java/lang/Object") ∈ gNWs := List.mem_of_getElem? (i := 102) rfl
theorem qn3828 : (Jvm.Cond.castable "LineRemarks$Point" "java/lang/Object") ∈ gNWs := List.mem_of_getElem? (i := 103) rfl
theorem qn3829 : (Jvm.Cond.castable "LineRemarks$Block" "java/lang/Object") ∈ gNWs := List.mem_of_getElem? (i := 104) rfl
theorem qn3830 : (Jvm.Cond.castable "LineRemarks$Caret" "java/lang/Object") ∈ gNWs := List.mem_of_getElem? (i := 105) rfl
theorem qn3831 : (Jvm.Cond.castable "LineRemarks$Loose" "java/lang/Object") ∈ gNWs := List.mem_of_getElem? (i := 106) rfl
theorem qn3832 : (Jvm.Cond.castable "LineRemarks$Wall" "java/lang/Object") ∈ gNWs := List.mem_of_getElem? (i := 107) rfl
theorem qn3833 : (Jvm.Cond.castable "LineRemarks$Tail" "java/lang/Object") ∈ gNWs := List.mem_of_getElem? (i := 108) rfl
theorem qn3834 : (Jvm.Cond.castable "LineRemarks$Walk" "java/lang/Object") ∈ gNWs := List.mem_of_getElem? (i := 109) rfl
theorem qn3835 : (Jvm.Cond.castable "LineRemarks$Span" "java/lang/Object") ∈ gNWs := List.mem_of_getElem? (i := 110) rfl
theorem qn3836 : (Jvm.Cond.castable "LineRemarks$Context" "java/lang/Object") ∈ gNWs := List.mem_of_getElem? (i := 111) rfl
theorem qn3837 : (Jvm.Cond.castable "java/util/LinkedList" "java/lang/Object") ∈ gNWs := List.mem_of_getElem? (i := 112) rfl
theorem qn3838 : (Jvm.Cond.castable "LineRemarks$Put" "java/lang/Object") ∈ gNWs := List.mem_of_getElem? (i := 113) rfl
theorem qn3839 : (Jvm.Cond.castable "java/util/LinkedList$Node" "java/lang/Object") ∈ gNWs := List.mem_of_getElem? (i := 114) rfl
theorem qn3842 : (Jvm.Cond.castable "java/util/LinkedList$ListItr" "java/lang/Object") ∈ gNWs := List.mem_of_getElem? (i := 115) rfl
theorem qn3845 : (Jvm.Cond.castable "java/util/Collections$CopiesList" "java/lang/Object") ∈ gNWs := List.mem_of_getElem? (i := 116) rfl
theorem qn3848 : (Jvm.Cond.castable "java/lang/Throwable" "java/lang/Object") ∈ gNWs := List.mem_of_getElem? (i := 117) rfl
theorem qn3851 : (Jvm.Cond.castable "[LLineRemarks$Shelf;" "java/lang/Object") ∈ gNWs := List.mem_of_getElem? (i := 118) rfl
theorem qn3852 : (Jvm.Cond.castable "[I" "java/lang/Object") ∈ gNWs := List.mem_of_getElem? (i := 119) rfl
theorem qn3853 : (Jvm.Cond.castable "[Ljava/lang/Object;" "java/lang/Object") ∈ gNWs := List.mem_of_getElem? (i := 120) rfl
theorem qn3854 : (Jvm.Cond.castable "[LLineRemarks$Revision;" "java/lang/Object") ∈ gNWs := List.mem_of_getElem? (i := 121) rfl
theorem qn3855 : (Jvm.Cond.castable "[LLineRemarks$Remark;" "java/lang/Object") ∈ gNWs := List.mem_of_getElem? (i := 122) rfl
theorem qn3856 : (Jvm.Cond.castable "[Z" "java/lang/Object") ∈ gNWs := List.mem_of_getElem? (i := 123) rfl
theorem qn3857 : (Jvm.Cond.castable "[B" "java/lang/Object") ∈ gNWs := List.mem_of_getElem? (i := 124) rfl
theorem qn3858 : (Jvm.Cond.castable "[S" "java/lang/Object") ∈ gNWs := List.mem_of_getElem? (i := 125) rfl
theorem qn3859 : (Jvm.Cond.castable "[J" "java/lang/Object") ∈ gNWs := List.mem_of_getElem? (i := 126) rfl
theorem qn3860 : (Jvm.Cond.castable "[C" "java/lang/Object") ∈ gNWs := List.mem_of_getElem? (i := 127) rfl
theorem qn3861 : (Jvm.Cond.castable "[LLineRemarks$Line;" "java/lang/Object") ∈ gNWs := List.mem_of_getElem? (i := 128) rfl
theorem qn3862 : (Jvm.Cond.castable "[[I" "java/lang/Object") ∈ gNWs := List.mem_of_getElem? (i := 129) rfl
def gAOs : List String := ["LineRemarks$Shelf", "java/lang/Object", "LineRemarks$Revision", "LineRemarks$Remark", "LineRemarks$Line"]
def gFws : List (String × MethodName × MethodName) := [("java/util/ArrayList", ⟨"java/util/List", "add", "(Ljava/lang/Object;)Z"⟩, ⟨"java/util/ArrayList", "add", "(Ljava/lang/Object;)Z"⟩), ("java/util/ArrayList", ⟨"java/util/List", "size", "()I"⟩, ⟨"java/util/ArrayList", "size", "()I"⟩), ("java/util/ArrayList", ⟨"java/util/List", "iterator", "()Ljava/util/Iterator;"⟩, ⟨"java/util/ArrayList", "iterator", "()Ljava/util/Iterator;"⟩), ("java/util/ArrayList", ⟨"java/util/List", "get", "(I)Ljava/lang/Object;"⟩, ⟨"java/util/ArrayList", "get", "(I)Ljava/lang/Object;"⟩), ("java/util/ArrayList", ⟨"java/util/List", "set", "(ILjava/lang/Object;)Ljava/lang/Object;"⟩, ⟨"java/util/ArrayList", "set", "(ILjava/lang/Object;)Ljava/lang/Object;"⟩), ("java/util/ArrayList", ⟨"java/util/List", "indexOf", "(Ljava/lang/Object;)I"⟩, ⟨"java/util/ArrayList", "indexOf", "(Ljava/lang/Object;)I"⟩), ("java/util/ImmutableCollections$ListN", ⟨"java/util/List", "iterator", "()Ljava/util/Iterator;"⟩, ⟨"java/util/ImmutableCollections$AbstractImmutableList", "iterator", "()Ljava/util/Iterator;"⟩), ("java/util/ImmutableCollections$ListN", ⟨"java/util/List", "get", "(I)Ljava/lang/Object;"⟩, ⟨"java/util/ImmutableCollections$ListN", "get", "(I)Ljava/lang/Object;"⟩), ("java/util/Collections$CopiesList", ⟨"java/util/Collection", "toArray", "()[Ljava/lang/Object;"⟩, ⟨"java/util/Collections$CopiesList", "toArray", "()[Ljava/lang/Object;"⟩), ("java/util/ArrayList", ⟨"java/util/Collection", "iterator", "()Ljava/util/Iterator;"⟩, ⟨"java/util/ArrayList", "iterator", "()Ljava/util/Iterator;"⟩), ("java/lang/Integer", ⟨"java/lang/Comparable", "compareTo", "(Ljava/lang/Object;)I"⟩, ⟨"java/lang/Integer", "compareTo", "(Ljava/lang/Object;)I"⟩), ("java/util/ArrayList$Itr", ⟨"java/util/Iterator", "hasNext", "()Z"⟩, ⟨"java/util/ArrayList$Itr", "hasNext", "()Z"⟩), ("java/util/ArrayList$Itr", ⟨"java/util/Iterator", "next", "()Ljava/lang/Object;"⟩, ⟨"java/util/ArrayList$Itr", "next", "()Ljava/lang/Object;"⟩), ("java/util/ArrayDeque$DeqIterator", ⟨"java/util/Iterator", "hasNext", "()Z"⟩, ⟨"java/util/ArrayDeque$DeqIterator", "hasNext", "()Z"⟩), ("java/util/ArrayDeque$DeqIterator", ⟨"java/util/Iterator", "next", "()Ljava/lang/Object;"⟩, ⟨"java/util/ArrayDeque$DeqIterator", "next", "()Ljava/lang/Object;"⟩), ("java/util/LinkedList$ListItr", ⟨"java/util/Iterator", "hasNext", "()Z"⟩, ⟨"java/util/LinkedList$ListItr", "hasNext", "()Z"⟩), ("java/util/LinkedList$ListItr", ⟨"java/util/Iterator", "next", "()Ljava/lang/Object;"⟩, ⟨"java/util/LinkedList$ListItr", "next", "()Ljava/lang/Object;"⟩), ("java/util/ImmutableCollections$ListItr", ⟨"java/util/Iterator", "hasNext", "()Z"⟩, ⟨"java/util/ImmutableCollections$ListItr", "hasNext", "()Z"⟩), ("java/util/ImmutableCollections$ListItr", ⟨"java/util/Iterator", "next", "()Ljava/lang/Object;"⟩, ⟨"java/util/ImmutableCollections$ListItr", "next", "()Ljava/lang/Object;"⟩), ("java/util/LinkedList$ListItr", ⟨"java/util/Iterator", "remove", "()V"⟩, ⟨"java/util/LinkedList$ListItr", "remove", "()V"⟩)]
theorem gFws_of {args : Array Value} {s : State} (h : ∀ w ∈ lw_tbl, w.before args s = true) : ∀ z ∈ gFws, va_Fw z.1 z.2.1 z.2.2 s := by
  refine List.forall_mem_cons.mpr ⟨va_Fw.of (h _ q872) (h _ q871) (h _ q877) (h _ q875) (h _ q873), List.forall_mem_cons.mpr ⟨va_Fw.of (h _ q1268) (h _ q1267) (h _ q1271) (h _ q1270) (h _ q873), List.forall_mem_cons.mpr ⟨va_Fw.of (h _ q1298) (h _ q1297) (h _ q1302) (h _ q1300) (h _ q873), List.forall_mem_cons.mpr ⟨va_Fw.of (h _ q1660) (h _ q1659) (h _ q1663) (h _ q1662) (h _ q873), List.forall_mem_cons.mpr ⟨va_Fw.of (h _ q2763) (h _ q2762) (h _ q2767) (h _ q2765) (h _ q873), List.forall_mem_cons.mpr ⟨va_Fw.of (h _ q2999) (h _ q2998) (h _ q3003) (h _ q3001) (h _ q873), List.forall_mem_cons.mpr ⟨va_Fw.of (h _ q1298) (h _ q1297) (h _ q1354) (h _ q1380) (h _ q1256), List.forall_mem_cons.mpr ⟨va_Fw.of (h _ q1660) (h _ q1659) (h _ q1690) (h _ q1688) (h _ q1256), List.forall_mem_cons.mpr ⟨va_Fw.of (h _ q2677) (h _ q2676) (h _ q2702) (h _ q2700) (h _ q2698), List.forall_mem_cons.mpr ⟨va_Fw.of (h _ q2792) (h _ q2791) (h _ q1302) (h _ q1300) (h _ q2692), List.forall_mem_cons.mpr ⟨va_Fw.of (h _ q2809) (h _ q2808) (h _ q2814) (h _ q2812) (h _ q2810), List.forall_mem_cons.mpr ⟨va_Fw.of (h _ q1474) (h _ q1473) (h _ q1495) (h _ q1493) (h _ q1491), List.forall_mem_cons.mpr ⟨va_Fw.of (h _ q1515) (h _ q1514) (h _ q1642) (h _ q1640) (h _ q1491), List.forall_mem_cons.mpr ⟨va_Fw.of (h _ q1474) (h _ q1473) (h _ q1489) (h _ q1487) (h _ q1485), List.forall_mem_cons.mpr ⟨va_Fw.of (h _ q1515) (h _ q1514) (h _ q1631) (h _ q1629) (h _ q1485), List.forall_mem_cons.mpr ⟨va_Fw.of (h _ q1474) (h _ q1473) (h _ q1510) (h _ q1508) (h _ q1506), List.forall_mem_cons.mpr ⟨va_Fw.of (h _ q1515) (h _ q1514) (h _ q1703) (h _ q1701) (h _ q1506), List.forall_mem_cons.mpr ⟨va_Fw.of (h _ q1474) (h _ q1473) (h _ q1504) (h _ q1502) (h _ q1500), List.forall_mem_cons.mpr ⟨va_Fw.of (h _ q1515) (h _ q1514) (h _ q1655) (h _ q1653) (h _ q1500), List.forall_mem_cons.mpr ⟨va_Fw.of (h _ q2550) (h _ q2549) (h _ q2641) (h _ q2639) (h _ q1506), fun _ h => absurd h List.not_mem_nil⟩⟩⟩⟩⟩⟩⟩⟩⟩⟩⟩⟩⟩⟩⟩⟩⟩⟩⟩⟩
theorem gFws_mh : ∀ z ∈ gFws, z.2.1.cls ≠ "java/lang/invoke/MethodHandle" ∧ z.2.1.cls ≠ "java/lang/invoke/VarHandle" := by decide +kernel
theorem qf0 : ("java/util/ArrayList", (⟨"java/util/List", "add", "(Ljava/lang/Object;)Z"⟩ : MethodName), (⟨"java/util/ArrayList", "add", "(Ljava/lang/Object;)Z"⟩ : MethodName)) ∈ gFws := List.mem_of_getElem? (i := 0) rfl
theorem qf1 : ("java/util/ArrayList", (⟨"java/util/List", "size", "()I"⟩ : MethodName), (⟨"java/util/ArrayList", "size", "()I"⟩ : MethodName)) ∈ gFws := List.mem_of_getElem? (i := 1) rfl
theorem qf2 : ("java/util/ArrayList", (⟨"java/util/List", "iterator", "()Ljava/util/Iterator;"⟩ : MethodName), (⟨"java/util/ArrayList", "iterator", "()Ljava/util/Iterator;"⟩ : MethodName)) ∈ gFws := List.mem_of_getElem? (i := 2) rfl
theorem qf3 : ("java/util/ArrayList", (⟨"java/util/List", "get", "(I)Ljava/lang/Object;"⟩ : MethodName), (⟨"java/util/ArrayList", "get", "(I)Ljava/lang/Object;"⟩ : MethodName)) ∈ gFws := List.mem_of_getElem? (i := 3) rfl
theorem qf4 : ("java/util/ArrayList", (⟨"java/util/List", "set", "(ILjava/lang/Object;)Ljava/lang/Object;"⟩ : MethodName), (⟨"java/util/ArrayList", "set", "(ILjava/lang/Object;)Ljava/lang/Object;"⟩ : MethodName)) ∈ gFws := List.mem_of_getElem? (i := 4) rfl
theorem qf5 : ("java/util/ArrayList", (⟨"java/util/List", "indexOf", "(Ljava/lang/Object;)I"⟩ : MethodName), (⟨"java/util/ArrayList", "indexOf", "(Ljava/lang/Object;)I"⟩ : MethodName)) ∈ gFws := List.mem_of_getElem? (i := 5) rfl
theorem qf6 : ("java/util/ImmutableCollections$ListN", (⟨"java/util/List", "iterator", "()Ljava/util/Iterator;"⟩ : MethodName), (⟨"java/util/ImmutableCollections$AbstractImmutableList", "iterator", "()Ljava/util/Iterator;"⟩ : MethodName)) ∈ gFws := List.mem_of_getElem? (i := 6) rfl
theorem qf7 : ("java/util/ImmutableCollections$ListN", (⟨"java/util/List", "get", "(I)Ljava/lang/Object;"⟩ : MethodName), (⟨"java/util/ImmutableCollections$ListN", "get", "(I)Ljava/lang/Object;"⟩ : MethodName)) ∈ gFws := List.mem_of_getElem? (i := 7) rfl
theorem qf8 : ("java/util/Collections$CopiesList", (⟨"java/util/Collection", "toArray", "()[Ljava/lang/Object;"⟩ : MethodName), (⟨"java/util/Collections$CopiesList", "toArray", "()[Ljava/lang/Object;"⟩ : MethodName)) ∈ gFws := List.mem_of_getElem? (i := 8) rfl
theorem qf9 : ("java/util/ArrayList", (⟨"java/util/Collection", "iterator", "()Ljava/util/Iterator;"⟩ : MethodName), (⟨"java/util/ArrayList", "iterator", "()Ljava/util/Iterator;"⟩ : MethodName)) ∈ gFws := List.mem_of_getElem? (i := 9) rfl
theorem qf10 : ("java/lang/Integer", (⟨"java/lang/Comparable", "compareTo", "(Ljava/lang/Object;)I"⟩ : MethodName), (⟨"java/lang/Integer", "compareTo", "(Ljava/lang/Object;)I"⟩ : MethodName)) ∈ gFws := List.mem_of_getElem? (i := 10) rfl
theorem qf11 : ("java/util/ArrayList$Itr", (⟨"java/util/Iterator", "hasNext", "()Z"⟩ : MethodName), (⟨"java/util/ArrayList$Itr", "hasNext", "()Z"⟩ : MethodName)) ∈ gFws := List.mem_of_getElem? (i := 11) rfl
theorem qf12 : ("java/util/ArrayList$Itr", (⟨"java/util/Iterator", "next", "()Ljava/lang/Object;"⟩ : MethodName), (⟨"java/util/ArrayList$Itr", "next", "()Ljava/lang/Object;"⟩ : MethodName)) ∈ gFws := List.mem_of_getElem? (i := 12) rfl
theorem qf13 : ("java/util/ArrayDeque$DeqIterator", (⟨"java/util/Iterator", "hasNext", "()Z"⟩ : MethodName), (⟨"java/util/ArrayDeque$DeqIterator", "hasNext", "()Z"⟩ : MethodName)) ∈ gFws := List.mem_of_getElem? (i := 13) rfl
theorem qf14 : ("java/util/ArrayDeque$DeqIterator", (⟨"java/util/Iterator", "next", "()Ljava/lang/Object;"⟩ : MethodName), (⟨"java/util/ArrayDeque$DeqIterator", "next", "()Ljava/lang/Object;"⟩ : MethodName)) ∈ gFws := List.mem_of_getElem? (i := 14) rfl
theorem qf15 : ("java/util/LinkedList$ListItr", (⟨"java/util/Iterator", "hasNext", "()Z"⟩ : MethodName), (⟨"java/util/LinkedList$ListItr", "hasNext", "()Z"⟩ : MethodName)) ∈ gFws := List.mem_of_getElem? (i := 15) rfl
theorem qf16 : ("java/util/LinkedList$ListItr", (⟨"java/util/Iterator", "next", "()Ljava/lang/Object;"⟩ : MethodName), (⟨"java/util/LinkedList$ListItr", "next", "()Ljava/lang/Object;"⟩ : MethodName)) ∈ gFws := List.mem_of_getElem? (i := 16) rfl
theorem qf17 : ("java/util/ImmutableCollections$ListItr", (⟨"java/util/Iterator", "hasNext", "()Z"⟩ : MethodName), (⟨"java/util/ImmutableCollections$ListItr", "hasNext", "()Z"⟩ : MethodName)) ∈ gFws := List.mem_of_getElem? (i := 17) rfl
theorem qf18 : ("java/util/ImmutableCollections$ListItr", (⟨"java/util/Iterator", "next", "()Ljava/lang/Object;"⟩ : MethodName), (⟨"java/util/ImmutableCollections$ListItr", "next", "()Ljava/lang/Object;"⟩ : MethodName)) ∈ gFws := List.mem_of_getElem? (i := 18) rfl
theorem qf19 : ("java/util/LinkedList$ListItr", (⟨"java/util/Iterator", "remove", "()V"⟩ : MethodName), (⟨"java/util/LinkedList$ListItr", "remove", "()V"⟩ : MethodName)) ∈ gFws := List.mem_of_getElem? (i := 19) rfl
/-! WHOLE NUMBERS: an Int32, an Int64 by an integer -/
def zI (z : Int) : Int32 := Int32.ofInt z
def zL (z : Int) : Int64 := Int64.ofInt z
abbrev zR (z : Int) : Prop := -2147483648 ≤ z ∧ z < 2147483648
theorem zI_toInt {z : Int} (h : zR z) : (zI z).toInt = z := Int32.toInt_ofInt_of_le (by have := h.1; omega) (by have := h.2; omega)
theorem zI_of (x : Int32) : x = zI x.toInt := (Int32.ofInt_toInt x).symm
theorem zI_rng (x : Int32) : zR x.toInt := ⟨by have := x.le_toInt; omega, by have := x.toInt_lt; omega⟩
theorem zI_ex (x : Int32) : ∃ z : Int, x = zI z ∧ zR z := ⟨_, zI_of x, zI_rng x⟩
theorem zI_add (a b : Int) : zI a + zI b = zI (a + b) := (Int32.ofInt_add a b).symm
theorem zI_sub (a b : Int) : zI a - zI b = zI (a - b) := (Int32.ofInt_sub a b).symm
theorem zI_mul (a b : Int) : zI a * zI b = zI (a * b) := (Int32.ofInt_mul a b).symm
theorem zI_neg (a : Int) : -zI a = zI (-a) := (Int32.ofInt_neg a).symm
theorem zI_nat (n : Nat) : zI (n : Int) = nI n := Int32.ofInt_eq_ofNat
theorem zI_inj {a b : Int} (ha : zR a) (hb : zR b) (h : zI a = zI b) : a = b := by
  rw [← zI_toInt ha, ← zI_toInt hb, h]
theorem zI_lt {a b : Int} (h : zR a ∧ zR b) : zI a < zI b ↔ a < b := by
  rw [Int32.lt_iff_toInt_lt, zI_toInt h.1, zI_toInt h.2]
theorem zI_le {a b : Int} (h : zR a ∧ zR b) : zI a ≤ zI b ↔ a ≤ b := by
  rw [Int32.le_iff_toInt_le, zI_toInt h.1, zI_toInt h.2]
theorem zI_eq {a b : Int} (h : zR a ∧ zR b) : zI a = zI b ↔ a = b := ⟨zI_inj h.1 h.2, fun e => by rw [e]⟩
theorem zI_0 : (0 : Int32) = zI 0 := by decide +kernel
theorem zI_clamp {j : Nat} (h : j < 2147483648) : (zI (j : Int)).toNatClampNeg = j := by rw [zI_nat]; exact nI_clamp h
theorem zI_in {j n : Nat} (h : j < n) (hn : n < 2147483648) : vp_in (zI (j : Int)) n := by rw [zI_nat]; exact vp_in_nI h hn
/-- a place, or -1 -/
def oI (o : Option Nat) : Int := match o with
  | none => -1
  | some k => (k : Int)
theorem oI_none : oI none = -1 := rfl
theorem oI_some (k : Nat) : oI (some k) = (k : Int) := rfl
/-! WHAT ELSE THE TABLES SAY -/
def gNcs : List (String × String) := [("LineRemarks$Bytes", "LineRemarks$Remark"), ("LineRemarks$Bytes", "LineRemarks$Point"), ("LineRemarks$Bytes", "LineRemarks$Block"), ("LineRemarks$Bytes", "LineRemarks$Caret"), ("LineRemarks$Bytes", "LineRemarks$Loose"), ("LineRemarks$Bytes", "LineRemarks$Wall"), ("LineRemarks$Bytes", "LineRemarks$Tail"), ("LineRemarks$Shorts", "LineRemarks$Remark"), ("LineRemarks$Shorts", "LineRemarks$Point"), ("LineRemarks$Shorts", "LineRemarks$Block"), ("LineRemarks$Shorts", "LineRemarks$Caret"), ("LineRemarks$Shorts", "LineRemarks$Loose"), ("LineRemarks$Shorts", "LineRemarks$Wall"), ("LineRemarks$Shorts", "LineRemarks$Tail"), ("LineRemarks$Ints", "LineRemarks$Remark"), ("LineRemarks$Ints", "LineRemarks$Point"), ("LineRemarks$Ints", "LineRemarks$Block"), ("LineRemarks$Ints", "LineRemarks$Caret"), ("LineRemarks$Ints", "LineRemarks$Loose"), ("LineRemarks$Ints", "LineRemarks$Wall"), ("LineRemarks$Ints", "LineRemarks$Tail"), ("LineRemarks$Longs", "LineRemarks$Remark"), ("LineRemarks$Longs", "LineRemarks$Point"), ("LineRemarks$Longs", "LineRemarks$Block"), ("LineRemarks$Longs", "LineRemarks$Caret"), ("LineRemarks$Longs", "LineRemarks$Loose"), ("LineRemarks$Longs", "LineRemarks$Wall"), ("LineRemarks$Longs", "LineRemarks$Tail"), ("LineRemarks$Remark", "LineRemarks$Row"), ("LineRemarks$Point", "LineRemarks$Row")] ++ [("LineRemarks$Block", "LineRemarks$Row"), ("LineRemarks$Caret", "LineRemarks$Row"), ("LineRemarks$Loose", "LineRemarks$Row"), ("LineRemarks$Wall", "LineRemarks$Row"), ("LineRemarks$Tail", "LineRemarks$Row"), ("LineRemarks$Remark", "LineRemarks$Point"), ("LineRemarks$Remark", "LineRemarks$Block"), ("LineRemarks$Remark", "LineRemarks$Caret"), ("LineRemarks$Remark", "LineRemarks$Loose"), ("LineRemarks$Remark", "LineRemarks$Wall"), ("LineRemarks$Remark", "LineRemarks$Tail"), ("LineRemarks$Point", "LineRemarks$Block"), ("LineRemarks$Point", "LineRemarks$Caret"), ("LineRemarks$Point", "LineRemarks$Loose"), ("LineRemarks$Point", "LineRemarks$Wall"), ("LineRemarks$Point", "LineRemarks$Tail"), ("LineRemarks$Block", "LineRemarks$Point"), ("LineRemarks$Block", "LineRemarks$Caret"), ("LineRemarks$Block", "LineRemarks$Loose"), ("LineRemarks$Block", "LineRemarks$Wall"), ("LineRemarks$Block", "LineRemarks$Tail"), ("LineRemarks$Caret", "LineRemarks$Block"), ("LineRemarks$Caret", "LineRemarks$Loose"), ("LineRemarks$Caret", "LineRemarks$Wall"), ("LineRemarks$Caret", "LineRemarks$Tail"), ("LineRemarks$Loose", "LineRemarks$Point"), ("LineRemarks$Loose", "LineRemarks$Block"), ("LineRemarks$Loose", "LineRemarks$Caret"), ("LineRemarks$Loose", "LineRemarks$Wall"), ("LineRemarks$Loose", "LineRemarks$Tail")] ++ [("LineRemarks$Wall", "LineRemarks$Point"), ("LineRemarks$Wall", "LineRemarks$Caret"), ("LineRemarks$Wall", "LineRemarks$Loose"), ("LineRemarks$Wall", "LineRemarks$Tail"), ("LineRemarks$Tail", "LineRemarks$Block"), ("LineRemarks$Tail", "LineRemarks$Loose"), ("LineRemarks$Tail", "LineRemarks$Wall"), ("LineRemarks$Refused", "LineRemarks$Faulty"), ("LineRemarks$Refused", "java/lang/ArrayIndexOutOfBoundsException"), ("LineRemarks$Refused", "java/lang/ClassCastException"), ("LineRemarks$Refused", "java/lang/IndexOutOfBoundsException"), ("LineRemarks$Refused", "java/lang/NegativeArraySizeException"), ("LineRemarks$Faulty", "LineRemarks$Refused"), ("LineRemarks$Faulty", "java/lang/ArrayIndexOutOfBoundsException"), ("LineRemarks$Faulty", "java/lang/ClassCastException"), ("LineRemarks$Faulty", "java/lang/IndexOutOfBoundsException"), ("LineRemarks$Faulty", "java/lang/NegativeArraySizeException"), ("java/lang/ArrayIndexOutOfBoundsException", "LineRemarks$Refused"), ("java/lang/ArrayIndexOutOfBoundsException", "LineRemarks$Faulty"), ("java/lang/ArrayIndexOutOfBoundsException", "java/lang/ClassCastException"), ("java/lang/ArrayIndexOutOfBoundsException", "java/lang/NegativeArraySizeException"), ("java/lang/ClassCastException", "LineRemarks$Refused"), ("java/lang/ClassCastException", "LineRemarks$Faulty"), ("java/lang/ClassCastException", "java/lang/ArrayIndexOutOfBoundsException"), ("java/lang/ClassCastException", "java/lang/IndexOutOfBoundsException"), ("java/lang/ClassCastException", "java/lang/NegativeArraySizeException"), ("java/lang/IndexOutOfBoundsException", "LineRemarks$Refused"), ("java/lang/IndexOutOfBoundsException", "LineRemarks$Faulty"), ("java/lang/IndexOutOfBoundsException", "java/lang/ArrayIndexOutOfBoundsException"), ("java/lang/IndexOutOfBoundsException", "java/lang/ClassCastException"), ("java/lang/IndexOutOfBoundsException", "java/lang/NegativeArraySizeException"), ("java/lang/NegativeArraySizeException", "LineRemarks$Refused"), ("java/lang/NegativeArraySizeException", "LineRemarks$Faulty"), ("java/lang/NegativeArraySizeException", "java/lang/ArrayIndexOutOfBoundsException"), ("java/lang/NegativeArraySizeException", "java/lang/ClassCastException"), ("java/lang/NegativeArraySizeException", "java/lang/IndexOutOfBoundsException")]
theorem qc0 : ("LineRemarks$Bytes", "LineRemarks$Remark") ∈ gNcs := List.mem_of_getElem? (i := 0) rfl
theorem qc1 : ("LineRemarks$Bytes", "LineRemarks$Point") ∈ gNcs := List.mem_of_getElem? (i := 1) rfl
theorem qc2 : ("LineRemarks$Bytes", "LineRemarks$Block") ∈ gNcs := List.mem_of_getElem? (i := 2) rfl
theorem qc3 : ("LineRemarks$Bytes", "LineRemarks$Caret") ∈ gNcs := List.mem_of_getElem? (i := 3) rfl
theorem qc4 : ("LineRemarks$Bytes", "LineRemarks$Loose") ∈ gNcs := List.mem_of_getElem? (i := 4) rfl
theorem qc5 : ("LineRemarks$Bytes", "LineRemarks$Wall") ∈ gNcs := List.mem_of_getElem? (i := 5) rfl
theorem qc6 : ("LineRemarks$Bytes", "LineRemarks$Tail") ∈ gNcs := List.mem_of_getElem? (i := 6) rfl
theorem qc7 : ("LineRemarks$Shorts", "LineRemarks$Remark") ∈ gNcs := List.mem_of_getElem? (i := 7) rfl
theorem qc8 : ("LineRemarks$Shorts", "LineRemarks$Point") ∈ gNcs := List.mem_of_getElem? (i := 8) rfl
theorem qc9 : ("LineRemarks$Shorts", "LineRemarks$Block") ∈ gNcs := List.mem_of_getElem? (i := 9) rfl
theorem qc10 : ("LineRemarks$Shorts", "LineRemarks$Caret") ∈ gNcs := List.mem_of_getElem? (i := 10) rfl
theorem qc11 : ("LineRemarks$Shorts", "LineRemarks$Loose") ∈ gNcs := List.mem_of_getElem? (i := 11) rfl
theorem qc12 : ("LineRemarks$Shorts", "LineRemarks$Wall") ∈ gNcs := List.mem_of_getElem? (i := 12) rfl
theorem qc13 : ("LineRemarks$Shorts", "LineRemarks$Tail") ∈ gNcs := List.mem_of_getElem? (i := 13) rfl
theorem qc14 : ("LineRemarks$Ints", "LineRemarks$Remark") ∈ gNcs := List.mem_of_getElem? (i := 14) rfl
theorem qc15 : ("LineRemarks$Ints", "LineRemarks$Point") ∈ gNcs := List.mem_of_getElem? (i := 15) rfl
theorem qc16 : ("LineRemarks$Ints", "LineRemarks$Block") ∈ gNcs := List.mem_of_getElem? (i := 16) rfl
theorem qc17 : ("LineRemarks$Ints", "LineRemarks$Caret") ∈ gNcs := List.mem_of_getElem? (i := 17) rfl
theorem qc18 : ("LineRemarks$Ints", "LineRemarks$Loose") ∈ gNcs := List.mem_of_getElem? (i := 18) rfl
theorem qc19 : ("LineRemarks$Ints", "LineRemarks$Wall") ∈ gNcs := List.mem_of_getElem? (i := 19) rfl
theorem qc20 : ("LineRemarks$Ints", "LineRemarks$Tail") ∈ gNcs := List.mem_of_getElem? (i := 20) rfl
theorem qc21 : ("LineRemarks$Longs", "LineRemarks$Remark") ∈ gNcs := List.mem_of_getElem? (i := 21) rfl
theorem qc22 : ("LineRemarks$Longs", "LineRemarks$Point") ∈ gNcs := List.mem_of_getElem? (i := 22) rfl
theorem qc23 : ("LineRemarks$Longs", "LineRemarks$Block") ∈ gNcs := List.mem_of_getElem? (i := 23) rfl
theorem qc24 : ("LineRemarks$Longs", "LineRemarks$Caret") ∈ gNcs := List.mem_of_getElem? (i := 24) rfl
theorem qc25 : ("LineRemarks$Longs", "LineRemarks$Loose") ∈ gNcs := List.mem_of_getElem? (i := 25) rfl
theorem qc26 : ("LineRemarks$Longs", "LineRemarks$Wall") ∈ gNcs := List.mem_of_getElem? (i := 26) rfl
theorem qc27 : ("LineRemarks$Longs", "LineRemarks$Tail") ∈ gNcs := List.mem_of_getElem? (i := 27) rfl
theorem qc28 : ("LineRemarks$Remark", "LineRemarks$Row") ∈ gNcs := List.mem_of_getElem? (i := 28) rfl
theorem qc29 : ("LineRemarks$Point", "LineRemarks$Row") ∈ gNcs := List.mem_of_getElem? (i := 29) rfl
theorem qc30 : ("LineRemarks$Block", "LineRemarks$Row") ∈ gNcs := List.mem_of_getElem? (i := 30) rfl
theorem qc31 : ("LineRemarks$Caret", "LineRemarks$Row") ∈ gNcs := List.mem_of_getElem? (i := 31) rfl
theorem qc32 : ("LineRemarks$Loose", "LineRemarks$Row") ∈ gNcs := List.mem_of_getElem? (i := 32) rfl
theorem qc33 : ("LineRemarks$Wall", "LineRemarks$Row") ∈ gNcs := List.mem_of_getElem? (i := 33) rfl
theorem qc34 : ("LineRemarks$Tail", "LineRemarks$Row") ∈ gNcs := List.mem_of_getElem? (i := 34) rfl
theorem qc35 : ("LineRemarks$Remark", "LineRemarks$Point") ∈ gNcs := List.mem_of_getElem? (i := 35) rfl
theorem qc36 : ("LineRemarks$Remark", "LineRemarks$Block") ∈ gNcs := List.mem_of_getElem? (i := 36) rfl
theorem qc37 : ("LineRemarks$Remark", "LineRemarks$Caret") ∈ gNcs := List.mem_of_getElem? (i := 37) rfl
theorem qc38 : ("LineRemarks$Remark", "LineRemarks$Loose") ∈ gNcs := List.mem_of_getElem? (i := 38) rfl
theorem qc39 : ("LineRemarks$Remark", "LineRemarks$Wall") ∈ gNcs := List.mem_of_getElem? (i := 39) rfl
theorem qc40 : ("LineRemarks$Remark", "LineRemarks$Tail") ∈ gNcs := List.mem_of_getElem? (i := 40) rfl
theorem qc41 : ("LineRemarks$Point", "LineRemarks$Block") ∈ gNcs := List.mem_of_getElem? (i := 41) rfl
theorem qc42 : ("LineRemarks$Point", "LineRemarks$Caret") ∈ gNcs := List.mem_of_getElem? (i := 42) rfl
theorem qc43 : ("LineRemarks$Point", "LineRemarks$Loose") ∈ gNcs := List.mem_of_getElem? (i := 43) rfl
theorem qc44 : ("LineRemarks$Point", "LineRemarks$Wall") ∈ gNcs := List.mem_of_getElem? (i := 44) rfl
theorem qc45 : ("LineRemarks$Point", "LineRemarks$Tail") ∈ gNcs := List.mem_of_getElem? (i := 45) rfl
theorem qc46 : ("LineRemarks$Block", "LineRemarks$Point") ∈ gNcs := List.mem_of_getElem? (i := 46) rfl
theorem qc47 : ("LineRemarks$Block", "LineRemarks$Caret") ∈ gNcs := List.mem_of_getElem? (i := 47) rfl
theorem qc48 : ("LineRemarks$Block", "LineRemarks$Loose") ∈ gNcs := List.mem_of_getElem? (i := 48) rfl
theorem qc49 : ("LineRemarks$Block", "LineRemarks$Wall") ∈ gNcs := List.mem_of_getElem? (i := 49) rfl
theorem qc50 : ("LineRemarks$Block", "LineRemarks$Tail") ∈ gNcs := List.mem_of_getElem? (i := 50) rfl
theorem qc51 : ("LineRemarks$Caret", "LineRemarks$Block") ∈ gNcs := List.mem_of_getElem? (i := 51) rfl
theorem qc52 : ("LineRemarks$Caret", "LineRemarks$Loose") ∈ gNcs := List.mem_of_getElem? (i := 52) rfl
theorem qc53 : ("LineRemarks$Caret", "LineRemarks$Wall") ∈ gNcs := List.mem_of_getElem? (i := 53) rfl
theorem qc54 : ("LineRemarks$Caret", "LineRemarks$Tail") ∈ gNcs := List.mem_of_getElem? (i := 54) rfl
theorem qc55 : ("LineRemarks$Loose", "LineRemarks$Point") ∈ gNcs := List.mem_of_getElem? (i := 55) rfl
theorem qc56 : ("LineRemarks$Loose", "LineRemarks$Block") ∈ gNcs := List.mem_of_getElem? (i := 56) rfl
theorem qc57 : ("LineRemarks$Loose", "LineRemarks$Caret") ∈ gNcs := List.mem_of_getElem? (i := 57) rfl
theorem qc58 : ("LineRemarks$Loose", "LineRemarks$Wall") ∈ gNcs := List.mem_of_getElem? (i := 58) rfl
theorem qc59 : ("LineRemarks$Loose", "LineRemarks$Tail") ∈ gNcs := List.mem_of_getElem? (i := 59) rfl
theorem qc60 : ("LineRemarks$Wall", "LineRemarks$Point") ∈ gNcs := List.mem_of_getElem? (i := 60) rfl
theorem qc61 : ("LineRemarks$Wall", "LineRemarks$Caret") ∈ gNcs := List.mem_of_getElem? (i := 61) rfl
theorem qc62 : ("LineRemarks$Wall", "LineRemarks$Loose") ∈ gNcs := List.mem_of_getElem? (i := 62) rfl
theorem qc63 : ("LineRemarks$Wall", "LineRemarks$Tail") ∈ gNcs := List.mem_of_getElem? (i := 63) rfl
theorem qc64 : ("LineRemarks$Tail", "LineRemarks$Block") ∈ gNcs := List.mem_of_getElem? (i := 64) rfl
theorem qc65 : ("LineRemarks$Tail", "LineRemarks$Loose") ∈ gNcs := List.mem_of_getElem? (i := 65) rfl
theorem qc66 : ("LineRemarks$Tail", "LineRemarks$Wall") ∈ gNcs := List.mem_of_getElem? (i := 66) rfl
theorem qc67 : ("LineRemarks$Refused", "LineRemarks$Faulty") ∈ gNcs := List.mem_of_getElem? (i := 67) rfl
theorem qc68 : ("LineRemarks$Refused", "java/lang/ArrayIndexOutOfBoundsException") ∈ gNcs := List.mem_of_getElem? (i := 68) rfl
theorem qc69 : ("LineRemarks$Refused", "java/lang/ClassCastException") ∈ gNcs := List.mem_of_getElem? (i := 69) rfl
theorem qc70 : ("LineRemarks$Refused", "java/lang/IndexOutOfBoundsException") ∈ gNcs := List.mem_of_getElem? (i := 70) rfl
theorem qc71 : ("LineRemarks$Refused", "java/lang/NegativeArraySizeException") ∈ gNcs := List.mem_of_getElem? (i := 71) rfl
theorem qc72 : ("LineRemarks$Faulty", "LineRemarks$Refused") ∈ gNcs := List.mem_of_getElem? (i := 72) rfl
theorem qc73 : ("LineRemarks$Faulty", "java/lang/ArrayIndexOutOfBoundsException") ∈ gNcs := List.mem_of_getElem? (i := 73) rfl
theorem qc74 : ("LineRemarks$Faulty", "java/lang/ClassCastException") ∈ gNcs := List.mem_of_getElem? (i := 74) rfl
theorem qc75 : ("LineRemarks$Faulty", "java/lang/IndexOutOfBoundsException") ∈ gNcs := List.mem_of_getElem? (i := 75) rfl
theorem qc76 : ("LineRemarks$Faulty", "java/lang/NegativeArraySizeException") ∈ gNcs := List.mem_of_getElem? (i := 76) rfl
theorem qc77 : ("java/lang/ArrayIndexOutOfBoundsException", "LineRemarks$Refused") ∈ gNcs := List.mem_of_getElem? (i := 77) rfl
theorem qc78 : ("java/lang/ArrayIndexOutOfBoundsException", "LineRemarks$Faulty") ∈ gNcs := List.mem_of_getElem? (i := 78) rfl
theorem qc79 : ("java/lang/ArrayIndexOutOfBoundsException", "java/lang/ClassCastException") ∈ gNcs := List.mem_of_getElem? (i := 79) rfl
theorem qc80 : ("java/lang/ArrayIndexOutOfBoundsException", "java/lang/NegativeArraySizeException") ∈ gNcs := List.mem_of_getElem? (i := 80) rfl
theorem qc81 : ("java/lang/ClassCastException", "LineRemarks$Refused") ∈ gNcs := List.mem_of_getElem? (i := 81) rfl
theorem qc82 : ("java/lang/ClassCastException", "LineRemarks$Faulty") ∈ gNcs := List.mem_of_getElem? (i := 82) rfl
theorem qc83 : ("java/lang/ClassCastException", "java/lang/ArrayIndexOutOfBoundsException") ∈ gNcs := List.mem_of_getElem? (i := 83) rfl
theorem qc84 : ("java/lang/ClassCastException", "java/lang/IndexOutOfBoundsException") ∈ gNcs := List.mem_of_getElem? (i := 84) rfl
theorem qc85 : ("java/lang/ClassCastException", "java/lang/NegativeArraySizeException") ∈ gNcs := List.mem_of_getElem? (i := 85) rfl
theorem qc86 : ("java/lang/IndexOutOfBoundsException", "LineRemarks$Refused") ∈ gNcs := List.mem_of_getElem? (i := 86) rfl
theorem qc87 : ("java/lang/IndexOutOfBoundsException", "LineRemarks$Faulty") ∈ gNcs := List.mem_of_getElem? (i := 87) rfl
theorem qc88 : ("java/lang/IndexOutOfBoundsException", "java/lang/ArrayIndexOutOfBoundsException") ∈ gNcs := List.mem_of_getElem? (i := 88) rfl
theorem qc89 : ("java/lang/IndexOutOfBoundsException", "java/lang/ClassCastException") ∈ gNcs := List.mem_of_getElem? (i := 89) rfl
theorem qc90 : ("java/lang/IndexOutOfBoundsException", "java/lang/NegativeArraySizeException") ∈ gNcs := List.mem_of_getElem? (i := 90) rfl
theorem qc91 : ("java/lang/NegativeArraySizeException", "LineRemarks$Refused") ∈ gNcs := List.mem_of_getElem? (i := 91) rfl
theorem qc92 : ("java/lang/NegativeArraySizeException", "LineRemarks$Faulty") ∈ gNcs := List.mem_of_getElem? (i := 92) rfl
theorem qc93 : ("java/lang/NegativeArraySizeException", "java/lang/ArrayIndexOutOfBoundsException") ∈ gNcs := List.mem_of_getElem? (i := 93) rfl
theorem qc94 : ("java/lang/NegativeArraySizeException", "java/lang/ClassCastException") ∈ gNcs := List.mem_of_getElem? (i := 94) rfl
theorem qc95 : ("java/lang/NegativeArraySizeException", "java/lang/IndexOutOfBoundsException") ∈ gNcs := List.mem_of_getElem? (i := 95) rfl
def gGC : MethodName := ⟨"java/lang/Object", "getClass", "()Ljava/lang/Class;"⟩
def gGI (U : State) : Prop := (Cond.interfaceMethod "java/util/Collection" "java/lang/Object" "getClass" "()Ljava/lang/Class;").before #[] U = true ∧ (Cond.publicMethod gGC).before #[] U = true ∧ (Cond.unhidden "java/util/Collections$CopiesList" "getClass" "()Ljava/lang/Class;").before #[] U = true
theorem gGI.moved {u U : State} (hvm : u.vm.Alike U.vm) (h : gGI u) : gGI U := by
  obtain ⟨h2, h3, h4⟩ := h
  have tr : ∀ {c : Cond}, c.onTables = true → c.before #[] (u.setVm U.vm) = true → c.before #[] U = true := by
    intro c hc h
    have e := Cond.onTables_vm (A := #[]) (A' := #[]) (U := u) (U' := U) U.vm c hc
    have hU : U.setVm U.vm = U := rfl
    rw [hU] at e
    rw [← e]
    exact h
  refine ⟨?_, tr rfl (by rw [Cond.publicMethod_setVm hvm]; exact h3), tr rfl (by rw [Cond.unhidden_setVm hvm]; exact h4)⟩
  have h1 : (Cond.interfaceMethod "java/util/Collection" "java/lang/Object" "getClass" "()Ljava/lang/Class;").before #[] (u.setVm U.vm) = (Cond.interfaceMethod "java/util/Collection" "java/lang/Object" "getClass" "()Ljava/lang/Class;").before #[] u := by
    simp only [Cond.before, Cond.holds, Cond.value, State.vm_setVm, hvm.findClass, State.methodFound?_setVm hvm, State.methodNamed?_setVm hvm, arm_isInterface_setVm hvm]
  exact tr rfl (h1.trans h2)
def gXt (X : va_G × (Nat → ClassId) × (Nat → Prop) × (Nat → Nat)) (U : State) : Prop :=
  (va_Fw "java/util/LinkedList" ⟨"java/util/List", "size", "()I"⟩ ⟨"java/util/LinkedList", "size", "()I"⟩ U ∧ va_Fw "java/util/LinkedList" ⟨"java/util/List", "iterator", "()Ljava/util/Iterator;"⟩ ⟨"java/util/AbstractSequentialList", "iterator", "()Ljava/util/Iterator;"⟩ U) ∧ gGI U ∧
  (va_Mi "java/util/ArrayList" (X.2.2.2 310) U ∧ va_Mi "java/util/Collections$CopiesList" (X.2.2.2 311) U ∧ va_Mi "[Ljava/lang/Object;" (X.2.2.2 312) U ∧ X.2.2.2 310 ≠ X.2.2.2 311) ∧ (∀ z ∈ gNcs, va_Nc z.1 z.2 U) ∧ modulesRight_1 U = true
theorem gXt.moved {X : va_G × (Nat → ClassId) × (Nat → Prop) × (Nat → Nat)} {u U : State} (hvm : u.vm.Alike U.vm) (h : gXt X u) : gXt X U := by
  obtain ⟨⟨h1, h2⟩, h3, ⟨h4, h5, h6, h7⟩, h8, h9⟩ := h
  refine ⟨⟨h1.moved (by decide +kernel) hvm, h2.moved (by decide +kernel) hvm⟩, h3.moved hvm, ⟨h4.moved hvm, h5.moved hvm, h6.moved hvm, h7⟩, fun z hz => (h8 z hz).moved hvm, ?_⟩
  have e0 : U.vm.bare.modules = u.vm.bare.modules := by rw [hvm.bare_eq]
  have e : U.vm.modules = u.vm.modules := e0
  unfold modulesRight_1 at h9 ⊢
  rw [e]; exact h9
/-! THE STATICS THAT ARE READ -/
def gZs (X : va_G × (Nat → ClassId) × (Nat → Prop) × (Nat → Nat)) (U : State) (H : Heap) : Prop :=
  va_Z "java/util/BitSet" "$assertionsDisabled" "Z" (.int 1) X.2.2.1 U H ∧ va_Z "java/util/Collections$CopiesList" "$assertionsDisabled" "Z" (.int 1) X.2.2.1 U H ∧ va_Z "java/util/ImmutableCollections" "$assertionsDisabled" "Z" (.int 1) X.2.2.1 U H ∧
  va_Z "java/util/ArrayList" "DEFAULTCAPACITY_EMPTY_ELEMENTDATA" "[Ljava/lang/Object;" (.ref (X.2.2.2 300)) X.2.2.1 U H ∧ va_T (.object "java/lang/Object") (X.2.2.2 300) 0 (fun _ => .null) X.2.2.1 U H ∧
  va_Z "java/lang/Integer$IntegerCache" "high" "I" (.int 127) X.2.2.1 U H ∧ va_Z "java/lang/Integer$IntegerCache" "cache" "[Ljava/lang/Integer;" (.ref (X.2.2.2 302)) X.2.2.1 U H ∧ va_T (.object "java/lang/Integer") (X.2.2.2 302) 256 (fun k => .ref (X.2.2.2 k)) X.2.2.1 U H ∧ vb_C X.2.2.2 X.2.2.1 U H ∧
  vx_Zq Bundle.tN "UNASSIGNED_STACK" Bundle.steD X.2.2.1 U H ∧ vx_Zq Bundle.tN "SUPPRESSED_SENTINEL" Bundle.listD X.2.2.1 U H ∧ va_Z "java/util/ImmutableCollections" "EMPTY" "Ljava/lang/Object;" (.ref (X.2.2.2 303)) X.2.2.1 U H ∧ gXt X U
theorem gZs.kept {X : va_G × (Nat → ClassId) × (Nat → Prop) × (Nat → Nat)} {U : State} {H H1 : Heap} (h : gZs X U H) (hq : ∀ a : Nat, a < H.size → ¬ X.2.2.1 a → H1[a]? = H[a]?) : gZs X U H1 := by
  obtain ⟨h1, h2, h3, h4, h5, h6, h7, h8, h9, h10, h11, h12, h13⟩ := h
  exact ⟨h1.kept hq, h2.kept hq, h3.kept hq, h4.kept hq, h5.kept hq, h6.kept hq, h7.kept hq, h8.kept hq, h9.kept hq, h10.kept hq, h11.kept hq, h12.kept hq, h13⟩
theorem gZs.moved {X : va_G × (Nat → ClassId) × (Nat → Prop) × (Nat → Nat)} {u U : State} {H : Heap} (hvm : u.vm.Alike U.vm) (h : gZs X u H) : gZs X U H := by
  obtain ⟨h1, h2, h3, h4, h5, h6, h7, h8, h9, h10, h11, h12, h13⟩ := h
  exact ⟨h1.moved hvm, h2.moved hvm, h3.moved hvm, h4.moved hvm, h5.moved hvm, h6.moved hvm, h7.moved hvm, h8.moved hvm, h9.moved hvm, h10.moved hvm, h11.moved hvm, h12.moved hvm, h13.moved hvm⟩
/-! THE MATCH OF TWO TEXTS, AS MATHEMATICS -/
def alk (ta tb : List (List Nat)) (i j : Nat) : Bool := decide (ta.getD i [] = tb.getD j [])
/-- the longest common part of the ends from i, j on; f: fuel -/
def lcF (al : Nat → Nat → Bool) (n m : Nat) : Nat → Nat → Nat → Nat
  | 0, _, _ => 0
  | f + 1, i, j => if n ≤ i ∨ m ≤ j then 0 else if al i j = true then 1 + lcF al n m f (i + 1) (j + 1) else max (lcF al n m f (i + 1) j) (lcF al n m f i (j + 1))
def lc (al : Nat → Nat → Bool) (n m i j : Nat) : Nat := lcF al n m ((n - i) + (m - j)) i j
theorem lcF_eq (al : Nat → Nat → Bool) (n m : Nat) : ∀ f g i j, (n - i) + (m - j) ≤ f → (n - i) + (m - j) ≤ g → lcF al n m f i j = lcF al n m g i j := by
  intro f
  induction f with
  | zero =>
    intro g i j h1 h2
    cases g with
    | zero => rfl
    | succ g =>
      unfold lcF
      rw [if_pos (by omega)]
  | succ f ih =>
    intro g i j h1 h2
    cases g with
    | zero =>
      unfold lcF
      rw [if_pos (by omega)]
    | succ g =>
      unfold lcF
      by_cases h : n ≤ i ∨ m ≤ j
      · rw [if_pos h, if_pos h]
      · rw [if_neg h, if_neg h, ih g (i + 1) (j + 1) (by omega) (by omega), ih g (i + 1) j (by omega) (by omega), ih g i (j + 1) (by omega) (by omega)]
theorem lc_out {al : Nat → Nat → Bool} {n m i j : Nat} (h : n ≤ i ∨ m ≤ j) : lc al n m i j = 0 := by
  unfold lc
  cases hf : (n - i) + (m - j) with
  | zero => rfl
  | succ f =>
    unfold lcF
    rw [if_pos h]
theorem lc_in {al : Nat → Nat → Bool} {n m i j : Nat} (hi : i < n) (hj : j < m) : lc al n m i j = if al i j = true then 1 + lc al n m (i + 1) (j + 1) else max (lc al n m (i + 1) j) (lc al n m i (j + 1)) := by
  unfold lc
  rw [lcF_eq al n m _ ((n - i) + (m - j) - 1 + 1) i j (Nat.le_refl _) (by omega)]
  rw [lcF]
  rw [if_neg (by omega), lcF_eq al n m _ ((n - (i + 1)) + (m - (j + 1))) (i + 1) (j + 1) (by omega) (by omega), lcF_eq al n m _ ((n - (i + 1)) + (m - j)) (i + 1) j (by omega) (by omega), lcF_eq al n m _ ((n - i) + (m - (j + 1))) i (j + 1) (by omega) (by omega)]
theorem lc_le {al : Nat → Nat → Bool} {n m : Nat} : ∀ f i j, lcF al n m f i j ≤ f := by
  intro f
  induction f with
  | zero => intro i j; exact Nat.le_refl _
  | succ f ih =>
    intro i j
    unfold lcF
    have h1 := ih (i + 1) (j + 1)
    have h2 := ih (i + 1) j
    have h3 := ih i (j + 1)
    split
    · omega
    · split <;> omega
/-- where lines go; which are taken -/
abbrev PU : Type := (Nat → Option Nat) × (Nat → Bool)
def puUse (s : PU) (i j : Nat) : PU := (va_up s.1 i (some j), va_up s.2 j true)
def prF (al : Nat → Nat → Bool) (n m : Nat) : Nat → Nat → Nat → PU → PU
  | 0, _, _, s => s
  | f + 1, i, j, s => if n ≤ i ∨ m ≤ j then s else if al i j = true then prF al n m f (i + 1) (j + 1) (puUse s i j) else if lc al n m i (j + 1) ≤ lc al n m (i + 1) j then prF al n m f (i + 1) j s else prF al n m f i (j + 1) s
def pu0 : PU := (fun _ => none, fun _ => false)
def pr0 (al : Nat → Nat → Bool) (n m : Nat) : PU := prF al n m (n + m) 0 0 pu0
def cnt (p : Nat → Option Nat) : Nat → Nat
  | 0 => 0
  | n + 1 => cnt p n + (if (p n).isSome = true then 1 else 0)
def rnF (al : Nat → Nat → Bool) (n m : Nat) (s : PU) : Nat → Nat → Nat → Nat
  | 0, _, _ => 0
  | f + 1, i, j => if i < n ∧ j < m ∧ s.1 i = none ∧ s.2 j = false ∧ al i j = true then 1 + rnF al n m s f (i + 1) (j + 1) else 0
def rn (al : Nat → Nat → Bool) (n m : Nat) (s : PU) (i j : Nat) : Nat := rnF al n m s (n - i) i j
/-- the best so far: how many, from, to -/
def bsJ (al : Nat → Nat → Bool) (n m : Nat) (s : PU) (i : Nat) : Nat → Nat × Nat × Nat → Nat × Nat × Nat
  | 0, b => b
  | j + 1, b => if (bsJ al n m s i j b).1 < rn al n m s i j then (rn al n m s i j, i, j) else bsJ al n m s i j b
def bsI (al : Nat → Nat → Bool) (n m : Nat) (s : PU) : Nat → Nat × Nat × Nat → Nat × Nat × Nat
  | 0, b => b
  | i + 1, b => bsJ al n m s i m (bsI al n m s i b)
def mvUse (s : PU) (i j : Nat) : Nat → PU
  | 0 => s
  | k + 1 => puUse (mvUse s i j k) (i + k) (j + k)
def mvF (al : Nat → Nat → Bool) (n m r : Nat) : Nat → PU → Nat → PU × Nat
  | 0, s, c => (s, c)
  | f + 1, s, c => if r ≤ (bsI al n m s n (0, 0, 0)).1 then mvF al n m r f (mvUse s (bsI al n m s n (0, 0, 0)).2.1 (bsI al n m s n (0, 0, 0)).2.2 (bsI al n m s n (0, 0, 0)).1) (c + (bsI al n m s n (0, 0, 0)).1) else (s, c)
def mPairs (ta tb : List (List Nat)) : Nat := cnt (pr0 (alk ta tb) ta.length tb.length).1 ta.length
def mEnd (ta tb : List (List Nat)) (r : Nat) : PU × Nat := mvF (alk ta tb) ta.length tb.length r (ta.length + 1) (pr0 (alk ta tb) ta.length tb.length) 0
def mMoved (ta tb : List (List Nat)) (r : Nat) : Nat := (mEnd ta tb r).2
def mPlace (ta tb : List (List Nat)) (r i : Nat) : Option Nat := (mEnd ta tb r).1.1 i
