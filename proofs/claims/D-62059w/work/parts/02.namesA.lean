set_option maxRecDepth 100000
/-! ReplicaDocument$Replica -/
def RX1 : String := "ReplicaDocument$Replica"
def TX1 : u_T := fun k => match k with
  | 0 => ("ReplicaDocument$Replica", "root", "LReplicaDocument$MapNode;", true)
  | 1 => ("ReplicaDocument$Replica", "log", "Ljava/util/ArrayList;", true)
  | _ => ("ReplicaDocument$Replica", "waiting", "Ljava/util/ArrayList;", true)
def tyX1 : Nat → FieldType := fun k => match k with
  | 0 => .object "ReplicaDocument$MapNode"
  | 1 => .object "java/util/ArrayList"
  | _ => .object "java/util/ArrayList"
abbrev wsX10 : List Cond := u_ws RX1 TX1 3
theorem nmX1 : ∀ a, a < 3 → ∀ b, b < 3 → a ≠ b → (TX1 a).2.1 ≠ (TX1 b).2.1 := by decide +kernel
theorem tyX1_ok : ∀ k, k < 3 → parseFieldDescriptor (TX1 k).2.2.1 = some (tyX1 k) := by decide +kernel
abbrev cX1_init : ByteArray := prog_7_method_1_code
def yX1_init : MethodName := ⟨RX1, "<init>", "()V"⟩
theorem dX1_init_0 : decode cX1_init 0 = .ok (.aload_n 0, 1) := by decide +kernel
theorem dX1_init_1 : decode cX1_init 1 = .ok (.invokespecial 3, 3) := by decide +kernel
theorem dX1_init_4 : decode cX1_init 4 = .ok (.aload_n 0, 1) := by decide +kernel
theorem dX1_init_5 : decode cX1_init 5 = .ok (.new 9, 3) := by decide +kernel
theorem dX1_init_8 : decode cX1_init 8 = .ok (.dup, 1) := by decide +kernel
theorem dX1_init_9 : decode cX1_init 9 = .ok (.aconst_null, 1) := by decide +kernel
theorem dX1_init_10 : decode cX1_init 10 = .ok (.invokespecial 11, 3) := by decide +kernel
theorem dX1_init_13 : decode cX1_init 13 = .ok (.putfield 14, 3) := by decide +kernel
theorem dX1_init_16 : decode cX1_init 16 = .ok (.aload_n 0, 1) := by decide +kernel
theorem dX1_init_17 : decode cX1_init 17 = .ok (.new 20, 3) := by decide +kernel
theorem dX1_init_20 : decode cX1_init 20 = .ok (.dup, 1) := by decide +kernel
theorem dX1_init_21 : decode cX1_init 21 = .ok (.invokespecial 22, 3) := by decide +kernel
theorem dX1_init_24 : decode cX1_init 24 = .ok (.putfield 23, 3) := by decide +kernel
theorem dX1_init_27 : decode cX1_init 27 = .ok (.aload_n 0, 1) := by decide +kernel
theorem dX1_init_28 : decode cX1_init 28 = .ok (.new 20, 3) := by decide +kernel
theorem dX1_init_31 : decode cX1_init 31 = .ok (.dup, 1) := by decide +kernel
theorem dX1_init_32 : decode cX1_init 32 = .ok (.invokespecial 22, 3) := by decide +kernel
theorem dX1_init_35 : decode cX1_init 35 = .ok (.putfield 27, 3) := by decide +kernel
theorem dX1_init_38 : decode cX1_init 38 = .ok (.return_, 1) := by decide +kernel
abbrev cX1_fits : ByteArray := prog_7_method_7_code
def yX1_fits : MethodName := ⟨RX1, "fits", "(III)Z"⟩
theorem dX1_fits_0 : decode cX1_fits 0 = .ok (.iload_n 1, 1) := by decide +kernel
theorem dX1_fits_1 : decode cX1_fits 1 = .ok (.iconst 4, 1) := by decide +kernel
theorem dX1_fits_2 : decode cX1_fits 2 = .ok (.if_icmp .ne 17, 3) := by decide +kernel
theorem dX1_fits_5 : decode cX1_fits 5 = .ok (.aload_n 0, 1) := by decide +kernel
theorem dX1_fits_6 : decode cX1_fits 6 = .ok (.iload_n 2, 1) := by decide +kernel
theorem dX1_fits_7 : decode cX1_fits 7 = .ok (.invokevirtual 61, 3) := by decide +kernel
theorem dX1_fits_10 : decode cX1_fits 10 = .ok (.ifnull 7, 3) := by decide +kernel
theorem dX1_fits_13 : decode cX1_fits 13 = .ok (.iconst 1, 1) := by decide +kernel
theorem dX1_fits_14 : decode cX1_fits 14 = .ok (.goto 4, 3) := by decide +kernel
theorem dX1_fits_17 : decode cX1_fits 17 = .ok (.iconst 0, 1) := by decide +kernel
theorem dX1_fits_18 : decode cX1_fits 18 = .ok (.ireturn, 1) := by decide +kernel
theorem dX1_fits_19 : decode cX1_fits 19 = .ok (.aload_n 0, 1) := by decide +kernel
theorem dX1_fits_20 : decode cX1_fits 20 = .ok (.iload_n 2, 1) := by decide +kernel
theorem dX1_fits_21 : decode cX1_fits 21 = .ok (.invokevirtual 64, 3) := by decide +kernel
theorem dX1_fits_24 : decode cX1_fits 24 = .ok (.astore 4, 2) := by decide +kernel
theorem dX1_fits_26 : decode cX1_fits 26 = .ok (.iload_n 1, 1) := by decide +kernel
theorem dX1_fits_27 : decode cX1_fits 27 = .ok (.iconst 3, 1) := by decide +kernel
theorem dX1_fits_28 : decode cX1_fits 28 = .ok (.if_icmp .eq 9, 3) := by decide +kernel
theorem dX1_fits_31 : decode cX1_fits 31 = .ok (.aload 4, 2) := by decide +kernel
theorem dX1_fits_33 : decode cX1_fits 33 = .ok (.instanceof 9, 3) := by decide +kernel
theorem dX1_fits_36 : decode cX1_fits 36 = .ok (.ireturn, 1) := by decide +kernel
theorem dX1_fits_37 : decode cX1_fits 37 = .ok (.aload 4, 2) := by decide +kernel
theorem dX1_fits_39 : decode cX1_fits 39 = .ok (.instanceof 67, 3) := by decide +kernel
theorem dX1_fits_42 : decode cX1_fits 42 = .ok (.ifCond .ne 5, 3) := by decide +kernel
theorem dX1_fits_45 : decode cX1_fits 45 = .ok (.iconst 0, 1) := by decide +kernel
theorem dX1_fits_46 : decode cX1_fits 46 = .ok (.ireturn, 1) := by decide +kernel
theorem dX1_fits_47 : decode cX1_fits 47 = .ok (.aload_n 0, 1) := by decide +kernel
theorem dX1_fits_48 : decode cX1_fits 48 = .ok (.iload_n 3, 1) := by decide +kernel
theorem dX1_fits_49 : decode cX1_fits 49 = .ok (.invokevirtual 61, 3) := by decide +kernel
theorem dX1_fits_52 : decode cX1_fits 52 = .ok (.astore 5, 2) := by decide +kernel
theorem dX1_fits_54 : decode cX1_fits 54 = .ok (.iload_n 3, 1) := by decide +kernel
theorem dX1_fits_55 : decode cX1_fits 55 = .ok (.ifCond .eq 18, 3) := by decide +kernel
theorem dX1_fits_58 : decode cX1_fits 58 = .ok (.aload 5, 2) := by decide +kernel
theorem dX1_fits_60 : decode cX1_fits 60 = .ok (.ifnull 17, 3) := by decide +kernel
theorem dX1_fits_63 : decode cX1_fits 63 = .ok (.aload 5, 2) := by decide +kernel
theorem dX1_fits_65 : decode cX1_fits 65 = .ok (.getfield 69, 3) := by decide +kernel
theorem dX1_fits_68 : decode cX1_fits 68 = .ok (.aload 4, 2) := by decide +kernel
theorem dX1_fits_70 : decode cX1_fits 70 = .ok (.if_acmp .ne 7, 3) := by decide +kernel
theorem dX1_fits_73 : decode cX1_fits 73 = .ok (.iconst 1, 1) := by decide +kernel
theorem dX1_fits_74 : decode cX1_fits 74 = .ok (.goto 4, 3) := by decide +kernel
theorem dX1_fits_77 : decode cX1_fits 77 = .ok (.iconst 0, 1) := by decide +kernel
theorem dX1_fits_78 : decode cX1_fits 78 = .ok (.ireturn, 1) := by decide +kernel
abbrev cX1_element : ByteArray := prog_7_method_8_code
def yX1_element : MethodName := ⟨RX1, "element", "(I)LReplicaDocument$Item;"⟩
theorem dX1_element_0 : decode cX1_element 0 = .ok (.aload_n 0, 1) := by decide +kernel
theorem dX1_element_1 : decode cX1_element 1 = .ok (.iload_n 1, 1) := by decide +kernel
theorem dX1_element_2 : decode cX1_element 2 = .ok (.invokevirtual 53, 3) := by decide +kernel
theorem dX1_element_5 : decode cX1_element 5 = .ok (.astore_n 2, 1) := by decide +kernel
theorem dX1_element_6 : decode cX1_element 6 = .ok (.aload_n 2, 1) := by decide +kernel
theorem dX1_element_7 : decode cX1_element 7 = .ok (.ifnull 25, 3) := by decide +kernel
theorem dX1_element_10 : decode cX1_element 10 = .ok (.aload_n 2, 1) := by decide +kernel
theorem dX1_element_11 : decode cX1_element 11 = .ok (.getfield 40, 3) := by decide +kernel
theorem dX1_element_14 : decode cX1_element 14 = .ok (.invokevirtual 72, 3) := by decide +kernel
theorem dX1_element_17 : decode cX1_element 17 = .ok (.iconst 3, 1) := by decide +kernel
theorem dX1_element_18 : decode cX1_element 18 = .ok (.if_icmp .ne 14, 3) := by decide +kernel
theorem dX1_element_21 : decode cX1_element 21 = .ok (.aload_n 2, 1) := by decide +kernel
theorem dX1_element_22 : decode cX1_element 22 = .ok (.getfield 69, 3) := by decide +kernel
theorem dX1_element_25 : decode cX1_element 25 = .ok (.ifnull 7, 3) := by decide +kernel
theorem dX1_element_28 : decode cX1_element 28 = .ok (.aload_n 2, 1) := by decide +kernel
theorem dX1_element_29 : decode cX1_element 29 = .ok (.goto 4, 3) := by decide +kernel
theorem dX1_element_32 : decode cX1_element 32 = .ok (.aconst_null, 1) := by decide +kernel
theorem dX1_element_33 : decode cX1_element 33 = .ok (.areturn, 1) := by decide +kernel
abbrev cX1_item : ByteArray := prog_7_method_3_code
def yX1_item : MethodName := ⟨RX1, "item", "(I)LReplicaDocument$Item;"⟩
theorem dX1_item_0 : decode cX1_item 0 = .ok (.aload_n 0, 1) := by decide +kernel
theorem dX1_item_1 : decode cX1_item 1 = .ok (.iload_n 1, 1) := by decide +kernel
theorem dX1_item_2 : decode cX1_item 2 = .ok (.invokevirtual 49, 3) := by decide +kernel
theorem dX1_item_5 : decode cX1_item 5 = .ok (.istore_n 2, 1) := by decide +kernel
theorem dX1_item_6 : decode cX1_item 6 = .ok (.iload_n 2, 1) := by decide +kernel
theorem dX1_item_7 : decode cX1_item 7 = .ok (.ifCond .ge 7, 3) := by decide +kernel
theorem dX1_item_10 : decode cX1_item 10 = .ok (.aconst_null, 1) := by decide +kernel
theorem dX1_item_11 : decode cX1_item 11 = .ok (.goto 14, 3) := by decide +kernel
theorem dX1_item_14 : decode cX1_item 14 = .ok (.aload_n 0, 1) := by decide +kernel
theorem dX1_item_15 : decode cX1_item 15 = .ok (.getfield 23, 3) := by decide +kernel
theorem dX1_item_18 : decode cX1_item 18 = .ok (.iload_n 2, 1) := by decide +kernel
theorem dX1_item_19 : decode cX1_item 19 = .ok (.invokevirtual 34, 3) := by decide +kernel
theorem dX1_item_22 : decode cX1_item 22 = .ok (.checkcast 38, 3) := by decide +kernel
theorem dX1_item_25 : decode cX1_item 25 = .ok (.areturn, 1) := by decide +kernel
abbrev cX1_place : ByteArray := prog_7_method_2_code
def yX1_place : MethodName := ⟨RX1, "place", "(I)I"⟩
theorem dX1_place_0 : decode cX1_place 0 = .ok (.iconst 0, 1) := by decide +kernel
theorem dX1_place_1 : decode cX1_place 1 = .ok (.istore_n 2, 1) := by decide +kernel
theorem dX1_place_2 : decode cX1_place 2 = .ok (.iload_n 2, 1) := by decide +kernel
theorem dX1_place_3 : decode cX1_place 3 = .ok (.aload_n 0, 1) := by decide +kernel
theorem dX1_place_4 : decode cX1_place 4 = .ok (.getfield 23, 3) := by decide +kernel
theorem dX1_place_7 : decode cX1_place 7 = .ok (.invokevirtual 30, 3) := by decide +kernel
theorem dX1_place_10 : decode cX1_place 10 = .ok (.if_icmp .ge 32, 3) := by decide +kernel
theorem dX1_place_13 : decode cX1_place 13 = .ok (.aload_n 0, 1) := by decide +kernel
theorem dX1_place_14 : decode cX1_place 14 = .ok (.getfield 23, 3) := by decide +kernel
theorem dX1_place_17 : decode cX1_place 17 = .ok (.iload_n 2, 1) := by decide +kernel
theorem dX1_place_18 : decode cX1_place 18 = .ok (.invokevirtual 34, 3) := by decide +kernel
theorem dX1_place_21 : decode cX1_place 21 = .ok (.checkcast 38, 3) := by decide +kernel
theorem dX1_place_24 : decode cX1_place 24 = .ok (.getfield 40, 3) := by decide +kernel
theorem dX1_place_27 : decode cX1_place 27 = .ok (.invokevirtual 44, 3) := by decide +kernel
theorem dX1_place_30 : decode cX1_place 30 = .ok (.iload_n 1, 1) := by decide +kernel
theorem dX1_place_31 : decode cX1_place 31 = .ok (.if_icmp .ne 5, 3) := by decide +kernel
theorem dX1_place_34 : decode cX1_place 34 = .ok (.iload_n 2, 1) := by decide +kernel
theorem dX1_place_35 : decode cX1_place 35 = .ok (.ireturn, 1) := by decide +kernel
theorem dX1_place_36 : decode cX1_place 36 = .ok (.iinc 2 1, 3) := by decide +kernel
theorem dX1_place_39 : decode cX1_place 39 = .ok (.goto (-37), 3) := by decide +kernel
theorem dX1_place_42 : decode cX1_place 42 = .ok (.iconst (-1), 1) := by decide +kernel
theorem dX1_place_43 : decode cX1_place 43 = .ok (.ireturn, 1) := by decide +kernel
abbrev cX1_node : ByteArray := prog_7_method_6_code
def yX1_node : MethodName := ⟨RX1, "node", "(I)LReplicaDocument$Node;"⟩
theorem dX1_node_0 : decode cX1_node 0 = .ok (.iload_n 1, 1) := by decide +kernel
theorem dX1_node_1 : decode cX1_node 1 = .ok (.ifCond .ne 7, 3) := by decide +kernel
theorem dX1_node_4 : decode cX1_node 4 = .ok (.aconst_null, 1) := by decide +kernel
theorem dX1_node_5 : decode cX1_node 5 = .ok (.goto 8, 3) := by decide +kernel
theorem dX1_node_8 : decode cX1_node 8 = .ok (.aload_n 0, 1) := by decide +kernel
theorem dX1_node_9 : decode cX1_node 9 = .ok (.iload_n 1, 1) := by decide +kernel
theorem dX1_node_10 : decode cX1_node 10 = .ok (.invokevirtual 53, 3) := by decide +kernel
theorem dX1_node_13 : decode cX1_node 13 = .ok (.astore_n 2, 1) := by decide +kernel
theorem dX1_node_14 : decode cX1_node 14 = .ok (.iload_n 1, 1) := by decide +kernel
theorem dX1_node_15 : decode cX1_node 15 = .ok (.ifCond .ne 10, 3) := by decide +kernel
theorem dX1_node_18 : decode cX1_node 18 = .ok (.aload_n 0, 1) := by decide +kernel
theorem dX1_node_19 : decode cX1_node 19 = .ok (.getfield 14, 3) := by decide +kernel
theorem dX1_node_22 : decode cX1_node 22 = .ok (.goto 15, 3) := by decide +kernel
theorem dX1_node_25 : decode cX1_node 25 = .ok (.aload_n 2, 1) := by decide +kernel
theorem dX1_node_26 : decode cX1_node 26 = .ok (.ifnonnull 7, 3) := by decide +kernel
theorem dX1_node_29 : decode cX1_node 29 = .ok (.aconst_null, 1) := by decide +kernel
theorem dX1_node_30 : decode cX1_node 30 = .ok (.goto 7, 3) := by decide +kernel
theorem dX1_node_33 : decode cX1_node 33 = .ok (.aload_n 2, 1) := by decide +kernel
theorem dX1_node_34 : decode cX1_node 34 = .ok (.getfield 57, 3) := by decide +kernel
theorem dX1_node_37 : decode cX1_node 37 = .ok (.areturn, 1) := by decide +kernel
abbrev cX1_greatestCount : ByteArray := prog_7_method_14_code
def yX1_greatestCount : MethodName := ⟨RX1, "greatestCount", "()I"⟩
theorem dX1_greatestCount_0 : decode cX1_greatestCount 0 = .ok (.iconst 0, 1) := by decide +kernel
theorem dX1_greatestCount_1 : decode cX1_greatestCount 1 = .ok (.istore_n 1, 1) := by decide +kernel
theorem dX1_greatestCount_2 : decode cX1_greatestCount 2 = .ok (.iconst 0, 1) := by decide +kernel
theorem dX1_greatestCount_3 : decode cX1_greatestCount 3 = .ok (.istore_n 2, 1) := by decide +kernel
theorem dX1_greatestCount_4 : decode cX1_greatestCount 4 = .ok (.iload_n 2, 1) := by decide +kernel
theorem dX1_greatestCount_5 : decode cX1_greatestCount 5 = .ok (.aload_n 0, 1) := by decide +kernel
theorem dX1_greatestCount_6 : decode cX1_greatestCount 6 = .ok (.getfield 23, 3) := by decide +kernel
theorem dX1_greatestCount_9 : decode cX1_greatestCount 9 = .ok (.invokevirtual 30, 3) := by decide +kernel
theorem dX1_greatestCount_12 : decode cX1_greatestCount 12 = .ok (.if_icmp .ge 33, 3) := by decide +kernel
theorem dX1_greatestCount_15 : decode cX1_greatestCount 15 = .ok (.iload_n 1, 1) := by decide +kernel
theorem dX1_greatestCount_16 : decode cX1_greatestCount 16 = .ok (.aload_n 0, 1) := by decide +kernel
theorem dX1_greatestCount_17 : decode cX1_greatestCount 17 = .ok (.getfield 23, 3) := by decide +kernel
theorem dX1_greatestCount_20 : decode cX1_greatestCount 20 = .ok (.iload_n 2, 1) := by decide +kernel
theorem dX1_greatestCount_21 : decode cX1_greatestCount 21 = .ok (.invokevirtual 34, 3) := by decide +kernel
theorem dX1_greatestCount_24 : decode cX1_greatestCount 24 = .ok (.checkcast 38, 3) := by decide +kernel
theorem dX1_greatestCount_27 : decode cX1_greatestCount 27 = .ok (.getfield 40, 3) := by decide +kernel
theorem dX1_greatestCount_30 : decode cX1_greatestCount 30 = .ok (.invokevirtual 44, 3) := by decide +kernel
theorem dX1_greatestCount_33 : decode cX1_greatestCount 33 = .ok (.iconst 4, 1) := by decide +kernel
theorem dX1_greatestCount_34 : decode cX1_greatestCount 34 = .ok (.idiv, 1) := by decide +kernel
theorem dX1_greatestCount_35 : decode cX1_greatestCount 35 = .ok (.invokestatic 137, 3) := by decide +kernel
theorem dX1_greatestCount_38 : decode cX1_greatestCount 38 = .ok (.istore_n 1, 1) := by decide +kernel
theorem dX1_greatestCount_39 : decode cX1_greatestCount 39 = .ok (.iinc 2 1, 3) := by decide +kernel
theorem dX1_greatestCount_42 : decode cX1_greatestCount 42 = .ok (.goto (-38), 3) := by decide +kernel
theorem dX1_greatestCount_45 : decode cX1_greatestCount 45 = .ok (.iload_n 1, 1) := by decide +kernel
theorem dX1_greatestCount_46 : decode cX1_greatestCount 46 = .ok (.ireturn, 1) := by decide +kernel
abbrev cX1_size : ByteArray := prog_7_method_5_code
def yX1_size : MethodName := ⟨RX1, "size", "()I"⟩
theorem dX1_size_0 : decode cX1_size 0 = .ok (.aload_n 0, 1) := by decide +kernel
theorem dX1_size_1 : decode cX1_size 1 = .ok (.getfield 23, 3) := by decide +kernel
theorem dX1_size_4 : decode cX1_size 4 = .ok (.invokevirtual 30, 3) := by decide +kernel
theorem dX1_size_7 : decode cX1_size 7 = .ok (.aload_n 0, 1) := by decide +kernel
theorem dX1_size_8 : decode cX1_size 8 = .ok (.getfield 27, 3) := by decide +kernel
theorem dX1_size_11 : decode cX1_size 11 = .ok (.invokevirtual 30, 3) := by decide +kernel
theorem dX1_size_14 : decode cX1_size 14 = .ok (.iadd, 1) := by decide +kernel
theorem dX1_size_15 : decode cX1_size 15 = .ok (.ireturn, 1) := by decide +kernel
abbrev cX1_apply : ByteArray := prog_7_method_9_code
def yX1_apply : MethodName := ⟨RX1, "apply", "(LReplicaDocument$Op;)V"⟩
theorem dX1_apply_0 : decode cX1_apply 0 = .ok (.iconst 0, 1) := by decide +kernel
theorem dX1_apply_1 : decode cX1_apply 1 = .ok (.istore_n 2, 1) := by decide +kernel
theorem dX1_apply_2 : decode cX1_apply 2 = .ok (.iconst 0, 1) := by decide +kernel
theorem dX1_apply_3 : decode cX1_apply 3 = .ok (.istore_n 3, 1) := by decide +kernel
theorem dX1_apply_4 : decode cX1_apply 4 = .ok (.iload_n 3, 1) := by decide +kernel
theorem dX1_apply_5 : decode cX1_apply 5 = .ok (.aload_n 1, 1) := by decide +kernel
theorem dX1_apply_6 : decode cX1_apply 6 = .ok (.invokevirtual 75, 3) := by decide +kernel
theorem dX1_apply_9 : decode cX1_apply 9 = .ok (.if_icmp .ge 64, 3) := by decide +kernel
theorem dX1_apply_12 : decode cX1_apply 12 = .ok (.aload_n 0, 1) := by decide +kernel
theorem dX1_apply_13 : decode cX1_apply 13 = .ok (.aload_n 1, 1) := by decide +kernel
theorem dX1_apply_14 : decode cX1_apply 14 = .ok (.iload_n 3, 1) := by decide +kernel
theorem dX1_apply_15 : decode cX1_apply 15 = .ok (.invokevirtual 78, 3) := by decide +kernel
theorem dX1_apply_18 : decode cX1_apply 18 = .ok (.invokevirtual 49, 3) := by decide +kernel
theorem dX1_apply_21 : decode cX1_apply 21 = .ok (.istore 4, 2) := by decide +kernel
theorem dX1_apply_23 : decode cX1_apply 23 = .ok (.iload 4, 2) := by decide +kernel
theorem dX1_apply_25 : decode cX1_apply 25 = .ok (.ifCond .lt 42, 3) := by decide +kernel
theorem dX1_apply_28 : decode cX1_apply 28 = .ok (.iload_n 2, 1) := by decide +kernel
theorem dX1_apply_29 : decode cX1_apply 29 = .ok (.iconst 1, 1) := by decide +kernel
theorem dX1_apply_30 : decode cX1_apply 30 = .ok (.iload 4, 2) := by decide +kernel
theorem dX1_apply_32 : decode cX1_apply 32 = .ok (.ishl, 1) := by decide +kernel
theorem dX1_apply_33 : decode cX1_apply 33 = .ok (.aload_n 0, 1) := by decide +kernel
theorem dX1_apply_34 : decode cX1_apply 34 = .ok (.getfield 23, 3) := by decide +kernel
theorem dX1_apply_37 : decode cX1_apply 37 = .ok (.iload 4, 2) := by decide +kernel
theorem dX1_apply_39 : decode cX1_apply 39 = .ok (.invokevirtual 34, 3) := by decide +kernel
theorem dX1_apply_42 : decode cX1_apply 42 = .ok (.checkcast 38, 3) := by decide +kernel
theorem dX1_apply_45 : decode cX1_apply 45 = .ok (.getfield 81, 3) := by decide +kernel
theorem dX1_apply_48 : decode cX1_apply 48 = .ok (.ior, 1) := by decide +kernel
theorem dX1_apply_49 : decode cX1_apply 49 = .ok (.ior, 1) := by decide +kernel
theorem dX1_apply_50 : decode cX1_apply 50 = .ok (.istore_n 2, 1) := by decide +kernel
theorem dX1_apply_51 : decode cX1_apply 51 = .ok (.aload_n 0, 1) := by decide +kernel
theorem dX1_apply_52 : decode cX1_apply 52 = .ok (.getfield 23, 3) := by decide +kernel
theorem dX1_apply_55 : decode cX1_apply 55 = .ok (.iload 4, 2) := by decide +kernel
theorem dX1_apply_57 : decode cX1_apply 57 = .ok (.invokevirtual 34, 3) := by decide +kernel
theorem dX1_apply_60 : decode cX1_apply 60 = .ok (.checkcast 38, 3) := by decide +kernel
theorem dX1_apply_63 : decode cX1_apply 63 = .ok (.iconst 1, 1) := by decide +kernel
theorem dX1_apply_64 : decode cX1_apply 64 = .ok (.putfield 85, 3) := by decide +kernel
theorem dX1_apply_67 : decode cX1_apply 67 = .ok (.iinc 3 1, 3) := by decide +kernel
theorem dX1_apply_70 : decode cX1_apply 70 = .ok (.goto (-66), 3) := by decide +kernel
theorem dX1_apply_73 : decode cX1_apply 73 = .ok (.new 38, 3) := by decide +kernel
theorem dX1_apply_76 : decode cX1_apply 76 = .ok (.dup, 1) := by decide +kernel
theorem dX1_apply_77 : decode cX1_apply 77 = .ok (.aload_n 1, 1) := by decide +kernel
theorem dX1_apply_78 : decode cX1_apply 78 = .ok (.iload_n 2, 1) := by decide +kernel
theorem dX1_apply_79 : decode cX1_apply 79 = .ok (.aload_n 0, 1) := by decide +kernel
theorem dX1_apply_80 : decode cX1_apply 80 = .ok (.getfield 23, 3) := by decide +kernel
theorem dX1_apply_83 : decode cX1_apply 83 = .ok (.invokevirtual 30, 3) := by decide +kernel
theorem dX1_apply_86 : decode cX1_apply 86 = .ok (.invokespecial 89, 3) := by decide +kernel
theorem dX1_apply_89 : decode cX1_apply 89 = .ok (.astore_n 3, 1) := by decide +kernel
theorem dX1_apply_90 : decode cX1_apply 90 = .ok (.aload_n 1, 1) := by decide +kernel
theorem dX1_apply_91 : decode cX1_apply 91 = .ok (.invokevirtual 72, 3) := by decide +kernel
theorem dX1_apply_94 : decode cX1_apply 94 = .ok (.iconst 1, 1) := by decide +kernel
theorem dX1_apply_95 : decode cX1_apply 95 = .ok (.if_icmp .ne 18, 3) := by decide +kernel
theorem dX1_apply_98 : decode cX1_apply 98 = .ok (.aload_n 3, 1) := by decide +kernel
theorem dX1_apply_99 : decode cX1_apply 99 = .ok (.new 9, 3) := by decide +kernel
theorem dX1_apply_102 : decode cX1_apply 102 = .ok (.dup, 1) := by decide +kernel
theorem dX1_apply_103 : decode cX1_apply 103 = .ok (.aload_n 3, 1) := by decide +kernel
theorem dX1_apply_104 : decode cX1_apply 104 = .ok (.invokespecial 11, 3) := by decide +kernel
theorem dX1_apply_107 : decode cX1_apply 107 = .ok (.putfield 57, 3) := by decide +kernel
theorem dX1_apply_110 : decode cX1_apply 110 = .ok (.goto 23, 3) := by decide +kernel
theorem dX1_apply_113 : decode cX1_apply 113 = .ok (.aload_n 1, 1) := by decide +kernel
theorem dX1_apply_114 : decode cX1_apply 114 = .ok (.invokevirtual 72, 3) := by decide +kernel
theorem dX1_apply_117 : decode cX1_apply 117 = .ok (.iconst 2, 1) := by decide +kernel
theorem dX1_apply_118 : decode cX1_apply 118 = .ok (.if_icmp .ne 15, 3) := by decide +kernel
theorem dX1_apply_121 : decode cX1_apply 121 = .ok (.aload_n 3, 1) := by decide +kernel
theorem dX1_apply_122 : decode cX1_apply 122 = .ok (.new 67, 3) := by decide +kernel
theorem dX1_apply_125 : decode cX1_apply 125 = .ok (.dup, 1) := by decide +kernel
theorem dX1_apply_126 : decode cX1_apply 126 = .ok (.aload_n 3, 1) := by decide +kernel
theorem dX1_apply_127 : decode cX1_apply 127 = .ok (.invokespecial 92, 3) := by decide +kernel
theorem dX1_apply_130 : decode cX1_apply 130 = .ok (.putfield 57, 3) := by decide +kernel
theorem dX1_apply_133 : decode cX1_apply 133 = .ok (.aload_n 0, 1) := by decide +kernel
theorem dX1_apply_134 : decode cX1_apply 134 = .ok (.aload_n 1, 1) := by decide +kernel
theorem dX1_apply_135 : decode cX1_apply 135 = .ok (.invokevirtual 72, 3) := by decide +kernel
theorem dX1_apply_138 : decode cX1_apply 138 = .ok (.aload_n 1, 1) := by decide +kernel
theorem dX1_apply_139 : decode cX1_apply 139 = .ok (.invokevirtual 93, 3) := by decide +kernel
theorem dX1_apply_142 : decode cX1_apply 142 = .ok (.aload_n 1, 1) := by decide +kernel
theorem dX1_apply_143 : decode cX1_apply 143 = .ok (.invokevirtual 96, 3) := by decide +kernel
theorem dX1_apply_146 : decode cX1_apply 146 = .ok (.invokevirtual 99, 3) := by decide +kernel
theorem dX1_apply_149 : decode cX1_apply 149 = .ok (.istore 4, 2) := by decide +kernel
theorem dX1_apply_151 : decode cX1_apply 151 = .ok (.aload_n 0, 1) := by decide +kernel
theorem dX1_apply_152 : decode cX1_apply 152 = .ok (.getfield 23, 3) := by decide +kernel
theorem dX1_apply_155 : decode cX1_apply 155 = .ok (.aload_n 3, 1) := by decide +kernel
theorem dX1_apply_156 : decode cX1_apply 156 = .ok (.invokevirtual 103, 3) := by decide +kernel
theorem dX1_apply_159 : decode cX1_apply 159 = .ok (.pop, 1) := by decide +kernel
theorem dX1_apply_160 : decode cX1_apply 160 = .ok (.iload 4, 2) := by decide +kernel
theorem dX1_apply_162 : decode cX1_apply 162 = .ok (.ifCond .eq 8, 3) := by decide +kernel
theorem dX1_apply_165 : decode cX1_apply 165 = .ok (.aload_n 0, 1) := by decide +kernel
theorem dX1_apply_166 : decode cX1_apply 166 = .ok (.aload_n 3, 1) := by decide +kernel
theorem dX1_apply_167 : decode cX1_apply 167 = .ok (.invokevirtual 107, 3) := by decide +kernel
theorem dX1_apply_170 : decode cX1_apply 170 = .ok (.return_, 1) := by decide +kernel
abbrev cX1_change : ByteArray := prog_7_method_10_code
def yX1_change : MethodName := ⟨RX1, "change", "(LReplicaDocument$Item;)V"⟩
theorem dX1_change_0 : decode cX1_change 0 = .ok (.aload_n 1, 1) := by decide +kernel
theorem dX1_change_1 : decode cX1_change 1 = .ok (.getfield 40, 3) := by decide +kernel
theorem dX1_change_4 : decode cX1_change 4 = .ok (.astore_n 2, 1) := by decide +kernel
theorem dX1_change_5 : decode cX1_change 5 = .ok (.aload_n 2, 1) := by decide +kernel
theorem dX1_change_6 : decode cX1_change 6 = .ok (.invokevirtual 72, 3) := by decide +kernel
theorem dX1_change_9 : decode cX1_change 9 = .ok (.iconst 4, 1) := by decide +kernel
theorem dX1_change_10 : decode cX1_change 10 = .ok (.if_icmp .ne 22, 3) := by decide +kernel
theorem dX1_change_13 : decode cX1_change 13 = .ok (.aload_n 0, 1) := by decide +kernel
theorem dX1_change_14 : decode cX1_change 14 = .ok (.aload_n 2, 1) := by decide +kernel
theorem dX1_change_15 : decode cX1_change 15 = .ok (.invokevirtual 93, 3) := by decide +kernel
theorem dX1_change_18 : decode cX1_change 18 = .ok (.invokevirtual 61, 3) := by decide +kernel
theorem dX1_change_21 : decode cX1_change 21 = .ok (.astore_n 3, 1) := by decide +kernel
theorem dX1_change_22 : decode cX1_change 22 = .ok (.aload_n 3, 1) := by decide +kernel
theorem dX1_change_23 : decode cX1_change 23 = .ok (.ifnull 8, 3) := by decide +kernel
theorem dX1_change_26 : decode cX1_change 26 = .ok (.aload_n 3, 1) := by decide +kernel
theorem dX1_change_27 : decode cX1_change 27 = .ok (.iconst 0, 1) := by decide +kernel
theorem dX1_change_28 : decode cX1_change 28 = .ok (.putfield 110, 3) := by decide +kernel
theorem dX1_change_31 : decode cX1_change 31 = .ok (.return_, 1) := by decide +kernel
theorem dX1_change_32 : decode cX1_change 32 = .ok (.aload_n 0, 1) := by decide +kernel
theorem dX1_change_33 : decode cX1_change 33 = .ok (.aload_n 2, 1) := by decide +kernel
theorem dX1_change_34 : decode cX1_change 34 = .ok (.invokevirtual 93, 3) := by decide +kernel
theorem dX1_change_37 : decode cX1_change 37 = .ok (.invokevirtual 64, 3) := by decide +kernel
theorem dX1_change_40 : decode cX1_change 40 = .ok (.astore_n 3, 1) := by decide +kernel
theorem dX1_change_41 : decode cX1_change 41 = .ok (.aload_n 3, 1) := by decide +kernel
theorem dX1_change_42 : decode cX1_change 42 = .ok (.instanceof 67, 3) := by decide +kernel
theorem dX1_change_45 : decode cX1_change 45 = .ok (.ifCond .eq 22, 3) := by decide +kernel
theorem dX1_change_48 : decode cX1_change 48 = .ok (.aload_n 3, 1) := by decide +kernel
theorem dX1_change_49 : decode cX1_change 49 = .ok (.checkcast 67, 3) := by decide +kernel
theorem dX1_change_52 : decode cX1_change 52 = .ok (.aload_n 0, 1) := by decide +kernel
theorem dX1_change_53 : decode cX1_change 53 = .ok (.aload_n 2, 1) := by decide +kernel
theorem dX1_change_54 : decode cX1_change 54 = .ok (.invokevirtual 96, 3) := by decide +kernel
theorem dX1_change_57 : decode cX1_change 57 = .ok (.invokevirtual 61, 3) := by decide +kernel
theorem dX1_change_60 : decode cX1_change 60 = .ok (.aload_n 1, 1) := by decide +kernel
theorem dX1_change_61 : decode cX1_change 61 = .ok (.invokevirtual 113, 3) := by decide +kernel
theorem dX1_change_64 : decode cX1_change 64 = .ok (.goto 47, 3) := by decide +kernel
theorem dX1_change_67 : decode cX1_change 67 = .ok (.aload_n 3, 1) := by decide +kernel
theorem dX1_change_68 : decode cX1_change 68 = .ok (.instanceof 9, 3) := by decide +kernel
theorem dX1_change_71 : decode cX1_change 71 = .ok (.ifCond .eq 40, 3) := by decide +kernel
theorem dX1_change_74 : decode cX1_change 74 = .ok (.aload_n 3, 1) := by decide +kernel
theorem dX1_change_75 : decode cX1_change 75 = .ok (.checkcast 9, 3) := by decide +kernel
theorem dX1_change_78 : decode cX1_change 78 = .ok (.astore 4, 2) := by decide +kernel
theorem dX1_change_80 : decode cX1_change 80 = .ok (.aload 4, 2) := by decide +kernel
theorem dX1_change_82 : decode cX1_change 82 = .ok (.aload_n 2, 1) := by decide +kernel
theorem dX1_change_83 : decode cX1_change 83 = .ok (.invokevirtual 96, 3) := by decide +kernel
theorem dX1_change_86 : decode cX1_change 86 = .ok (.aload_n 1, 1) := by decide +kernel
theorem dX1_change_87 : decode cX1_change 87 = .ok (.getfield 81, 3) := by decide +kernel
theorem dX1_change_90 : decode cX1_change 90 = .ok (.invokevirtual 116, 3) := by decide +kernel
theorem dX1_change_93 : decode cX1_change 93 = .ok (.aload_n 2, 1) := by decide +kernel
theorem dX1_change_94 : decode cX1_change 94 = .ok (.invokevirtual 72, 3) := by decide +kernel
theorem dX1_change_97 : decode cX1_change 97 = .ok (.iconst 5, 1) := by decide +kernel
theorem dX1_change_98 : decode cX1_change 98 = .ok (.if_icmp .eq 13, 3) := by decide +kernel
theorem dX1_change_101 : decode cX1_change 101 = .ok (.aload 4, 2) := by decide +kernel
theorem dX1_change_103 : decode cX1_change 103 = .ok (.aload_n 2, 1) := by decide +kernel
theorem dX1_change_104 : decode cX1_change 104 = .ok (.invokevirtual 96, 3) := by decide +kernel
theorem dX1_change_107 : decode cX1_change 107 = .ok (.aload_n 1, 1) := by decide +kernel
theorem dX1_change_108 : decode cX1_change 108 = .ok (.invokevirtual 120, 3) := by decide +kernel
theorem dX1_change_111 : decode cX1_change 111 = .ok (.return_, 1) := by decide +kernel
abbrev cX1_settle : ByteArray := prog_7_method_12_code
def yX1_settle : MethodName := ⟨RX1, "settle", "()I"⟩
theorem dX1_settle_0 : decode cX1_settle 0 = .ok (.iconst 0, 1) := by decide +kernel
theorem dX1_settle_1 : decode cX1_settle 1 = .ok (.istore_n 1, 1) := by decide +kernel
theorem dX1_settle_2 : decode cX1_settle 2 = .ok (.aload_n 0, 1) := by decide +kernel
theorem dX1_settle_3 : decode cX1_settle 3 = .ok (.invokevirtual 123, 3) := by decide +kernel
theorem dX1_settle_6 : decode cX1_settle 6 = .ok (.istore_n 2, 1) := by decide +kernel
theorem dX1_settle_7 : decode cX1_settle 7 = .ok (.iload_n 2, 1) := by decide +kernel
theorem dX1_settle_8 : decode cX1_settle 8 = .ok (.ifCond .lt 46, 3) := by decide +kernel
theorem dX1_settle_11 : decode cX1_settle 11 = .ok (.iload_n 1, 1) := by decide +kernel
theorem dX1_settle_12 : decode cX1_settle 12 = .ok (.bipush 16, 2) := by decide +kernel
theorem dX1_settle_14 : decode cX1_settle 14 = .ok (.if_icmp .ge 40, 3) := by decide +kernel
theorem dX1_settle_17 : decode cX1_settle 17 = .ok (.aload_n 0, 1) := by decide +kernel
theorem dX1_settle_18 : decode cX1_settle 18 = .ok (.getfield 27, 3) := by decide +kernel
theorem dX1_settle_21 : decode cX1_settle 21 = .ok (.iload_n 2, 1) := by decide +kernel
theorem dX1_settle_22 : decode cX1_settle 22 = .ok (.invokevirtual 34, 3) := by decide +kernel
theorem dX1_settle_25 : decode cX1_settle 25 = .ok (.checkcast 45, 3) := by decide +kernel
theorem dX1_settle_28 : decode cX1_settle 28 = .ok (.astore_n 3, 1) := by decide +kernel
theorem dX1_settle_29 : decode cX1_settle 29 = .ok (.aload_n 0, 1) := by decide +kernel
theorem dX1_settle_30 : decode cX1_settle 30 = .ok (.getfield 27, 3) := by decide +kernel
theorem dX1_settle_33 : decode cX1_settle 33 = .ok (.iload_n 2, 1) := by decide +kernel
theorem dX1_settle_34 : decode cX1_settle 34 = .ok (.invokevirtual 126, 3) := by decide +kernel
theorem dX1_settle_37 : decode cX1_settle 37 = .ok (.pop, 1) := by decide +kernel
theorem dX1_settle_38 : decode cX1_settle 38 = .ok (.aload_n 0, 1) := by decide +kernel
theorem dX1_settle_39 : decode cX1_settle 39 = .ok (.aload_n 3, 1) := by decide +kernel
theorem dX1_settle_40 : decode cX1_settle 40 = .ok (.invokevirtual 129, 3) := by decide +kernel
theorem dX1_settle_43 : decode cX1_settle 43 = .ok (.iinc 1 1, 3) := by decide +kernel
theorem dX1_settle_46 : decode cX1_settle 46 = .ok (.aload_n 0, 1) := by decide +kernel
theorem dX1_settle_47 : decode cX1_settle 47 = .ok (.invokevirtual 123, 3) := by decide +kernel
theorem dX1_settle_50 : decode cX1_settle 50 = .ok (.istore_n 2, 1) := by decide +kernel
theorem dX1_settle_51 : decode cX1_settle 51 = .ok (.goto (-44), 3) := by decide +kernel
theorem dX1_settle_54 : decode cX1_settle 54 = .ok (.iload_n 1, 1) := by decide +kernel
theorem dX1_settle_55 : decode cX1_settle 55 = .ok (.ireturn, 1) := by decide +kernel
abbrev cX1_leastReady : ByteArray := prog_7_method_13_code
def yX1_leastReady : MethodName := ⟨RX1, "leastReady", "()I"⟩
theorem dX1_leastReady_0 : decode cX1_leastReady 0 = .ok (.iconst (-1), 1) := by decide +kernel
theorem dX1_leastReady_1 : decode cX1_leastReady 1 = .ok (.istore_n 1, 1) := by decide +kernel
theorem dX1_leastReady_2 : decode cX1_leastReady 2 = .ok (.iconst 0, 1) := by decide +kernel
theorem dX1_leastReady_3 : decode cX1_leastReady 3 = .ok (.istore_n 2, 1) := by decide +kernel
theorem dX1_leastReady_4 : decode cX1_leastReady 4 = .ok (.iload_n 2, 1) := by decide +kernel
theorem dX1_leastReady_5 : decode cX1_leastReady 5 = .ok (.aload_n 0, 1) := by decide +kernel
theorem dX1_leastReady_6 : decode cX1_leastReady 6 = .ok (.getfield 27, 3) := by decide +kernel
theorem dX1_leastReady_9 : decode cX1_leastReady 9 = .ok (.invokevirtual 30, 3) := by decide +kernel
theorem dX1_leastReady_12 : decode cX1_leastReady 12 = .ok (.if_icmp .ge 56, 3) := by decide +kernel
theorem dX1_leastReady_15 : decode cX1_leastReady 15 = .ok (.aload_n 0, 1) := by decide +kernel
theorem dX1_leastReady_16 : decode cX1_leastReady 16 = .ok (.getfield 27, 3) := by decide +kernel
theorem dX1_leastReady_19 : decode cX1_leastReady 19 = .ok (.iload_n 2, 1) := by decide +kernel
theorem dX1_leastReady_20 : decode cX1_leastReady 20 = .ok (.invokevirtual 34, 3) := by decide +kernel
theorem dX1_leastReady_23 : decode cX1_leastReady 23 = .ok (.checkcast 45, 3) := by decide +kernel
theorem dX1_leastReady_26 : decode cX1_leastReady 26 = .ok (.astore_n 3, 1) := by decide +kernel
theorem dX1_leastReady_27 : decode cX1_leastReady 27 = .ok (.aload_n 0, 1) := by decide +kernel
theorem dX1_leastReady_28 : decode cX1_leastReady 28 = .ok (.aload_n 3, 1) := by decide +kernel
theorem dX1_leastReady_29 : decode cX1_leastReady 29 = .ok (.invokevirtual 133, 3) := by decide +kernel
theorem dX1_leastReady_32 : decode cX1_leastReady 32 = .ok (.ifCond .eq 30, 3) := by decide +kernel
theorem dX1_leastReady_35 : decode cX1_leastReady 35 = .ok (.iload_n 1, 1) := by decide +kernel
theorem dX1_leastReady_36 : decode cX1_leastReady 36 = .ok (.ifCond .lt 24, 3) := by decide +kernel
theorem dX1_leastReady_39 : decode cX1_leastReady 39 = .ok (.aload_n 3, 1) := by decide +kernel
theorem dX1_leastReady_40 : decode cX1_leastReady 40 = .ok (.invokevirtual 44, 3) := by decide +kernel
theorem dX1_leastReady_43 : decode cX1_leastReady 43 = .ok (.aload_n 0, 1) := by decide +kernel
theorem dX1_leastReady_44 : decode cX1_leastReady 44 = .ok (.getfield 27, 3) := by decide +kernel
theorem dX1_leastReady_47 : decode cX1_leastReady 47 = .ok (.iload_n 1, 1) := by decide +kernel
theorem dX1_leastReady_48 : decode cX1_leastReady 48 = .ok (.invokevirtual 34, 3) := by decide +kernel
theorem dX1_leastReady_51 : decode cX1_leastReady 51 = .ok (.checkcast 45, 3) := by decide +kernel
theorem dX1_leastReady_54 : decode cX1_leastReady 54 = .ok (.invokevirtual 44, 3) := by decide +kernel
theorem dX1_leastReady_57 : decode cX1_leastReady 57 = .ok (.if_icmp .ge 5, 3) := by decide +kernel
theorem dX1_leastReady_60 : decode cX1_leastReady 60 = .ok (.iload_n 2, 1) := by decide +kernel
theorem dX1_leastReady_61 : decode cX1_leastReady 61 = .ok (.istore_n 1, 1) := by decide +kernel
theorem dX1_leastReady_62 : decode cX1_leastReady 62 = .ok (.iinc 2 1, 3) := by decide +kernel
theorem dX1_leastReady_65 : decode cX1_leastReady 65 = .ok (.goto (-61), 3) := by decide +kernel
theorem dX1_leastReady_68 : decode cX1_leastReady 68 = .ok (.iload_n 1, 1) := by decide +kernel
theorem dX1_leastReady_69 : decode cX1_leastReady 69 = .ok (.ireturn, 1) := by decide +kernel
abbrev cX1_ready : ByteArray := prog_7_method_11_code
def yX1_ready : MethodName := ⟨RX1, "ready", "(LReplicaDocument$Op;)Z"⟩
theorem dX1_ready_0 : decode cX1_ready 0 = .ok (.iconst 0, 1) := by decide +kernel
theorem dX1_ready_1 : decode cX1_ready 1 = .ok (.istore_n 2, 1) := by decide +kernel
theorem dX1_ready_2 : decode cX1_ready 2 = .ok (.iload_n 2, 1) := by decide +kernel
theorem dX1_ready_3 : decode cX1_ready 3 = .ok (.aload_n 1, 1) := by decide +kernel
theorem dX1_ready_4 : decode cX1_ready 4 = .ok (.invokevirtual 75, 3) := by decide +kernel
theorem dX1_ready_7 : decode cX1_ready 7 = .ok (.if_icmp .ge 23, 3) := by decide +kernel
theorem dX1_ready_10 : decode cX1_ready 10 = .ok (.aload_n 0, 1) := by decide +kernel
theorem dX1_ready_11 : decode cX1_ready 11 = .ok (.aload_n 1, 1) := by decide +kernel
theorem dX1_ready_12 : decode cX1_ready 12 = .ok (.iload_n 2, 1) := by decide +kernel
theorem dX1_ready_13 : decode cX1_ready 13 = .ok (.invokevirtual 78, 3) := by decide +kernel
theorem dX1_ready_16 : decode cX1_ready 16 = .ok (.invokevirtual 49, 3) := by decide +kernel
theorem dX1_ready_19 : decode cX1_ready 19 = .ok (.ifCond .ge 5, 3) := by decide +kernel
theorem dX1_ready_22 : decode cX1_ready 22 = .ok (.iconst 0, 1) := by decide +kernel
theorem dX1_ready_23 : decode cX1_ready 23 = .ok (.ireturn, 1) := by decide +kernel
theorem dX1_ready_24 : decode cX1_ready 24 = .ok (.iinc 2 1, 3) := by decide +kernel
theorem dX1_ready_27 : decode cX1_ready 27 = .ok (.goto (-25), 3) := by decide +kernel
theorem dX1_ready_30 : decode cX1_ready 30 = .ok (.iconst 1, 1) := by decide +kernel
theorem dX1_ready_31 : decode cX1_ready 31 = .ok (.ireturn, 1) := by decide +kernel
abbrev cX1_held : ByteArray := prog_7_method_4_code
def yX1_held : MethodName := ⟨RX1, "held", "(I)LReplicaDocument$Op;"⟩
theorem dX1_held_0 : decode cX1_held 0 = .ok (.aload_n 0, 1) := by decide +kernel
theorem dX1_held_1 : decode cX1_held 1 = .ok (.iload_n 1, 1) := by decide +kernel
theorem dX1_held_2 : decode cX1_held 2 = .ok (.invokevirtual 53, 3) := by decide +kernel
theorem dX1_held_5 : decode cX1_held 5 = .ok (.astore_n 2, 1) := by decide +kernel
theorem dX1_held_6 : decode cX1_held 6 = .ok (.aload_n 2, 1) := by decide +kernel
theorem dX1_held_7 : decode cX1_held 7 = .ok (.ifnull 8, 3) := by decide +kernel
theorem dX1_held_10 : decode cX1_held 10 = .ok (.aload_n 2, 1) := by decide +kernel
theorem dX1_held_11 : decode cX1_held 11 = .ok (.getfield 40, 3) := by decide +kernel
theorem dX1_held_14 : decode cX1_held 14 = .ok (.areturn, 1) := by decide +kernel
theorem dX1_held_15 : decode cX1_held 15 = .ok (.iconst 0, 1) := by decide +kernel
theorem dX1_held_16 : decode cX1_held 16 = .ok (.istore_n 3, 1) := by decide +kernel
theorem dX1_held_17 : decode cX1_held 17 = .ok (.iload_n 3, 1) := by decide +kernel
theorem dX1_held_18 : decode cX1_held 18 = .ok (.aload_n 0, 1) := by decide +kernel
theorem dX1_held_19 : decode cX1_held 19 = .ok (.getfield 27, 3) := by decide +kernel
theorem dX1_held_22 : decode cX1_held 22 = .ok (.invokevirtual 30, 3) := by decide +kernel
theorem dX1_held_25 : decode cX1_held 25 = .ok (.if_icmp .ge 39, 3) := by decide +kernel
theorem dX1_held_28 : decode cX1_held 28 = .ok (.aload_n 0, 1) := by decide +kernel
theorem dX1_held_29 : decode cX1_held 29 = .ok (.getfield 27, 3) := by decide +kernel
theorem dX1_held_32 : decode cX1_held 32 = .ok (.iload_n 3, 1) := by decide +kernel
theorem dX1_held_33 : decode cX1_held 33 = .ok (.invokevirtual 34, 3) := by decide +kernel
theorem dX1_held_36 : decode cX1_held 36 = .ok (.checkcast 45, 3) := by decide +kernel
theorem dX1_held_39 : decode cX1_held 39 = .ok (.invokevirtual 44, 3) := by decide +kernel
theorem dX1_held_42 : decode cX1_held 42 = .ok (.iload_n 1, 1) := by decide +kernel
theorem dX1_held_43 : decode cX1_held 43 = .ok (.if_icmp .ne 15, 3) := by decide +kernel
theorem dX1_held_46 : decode cX1_held 46 = .ok (.aload_n 0, 1) := by decide +kernel
theorem dX1_held_47 : decode cX1_held 47 = .ok (.getfield 27, 3) := by decide +kernel
theorem dX1_held_50 : decode cX1_held 50 = .ok (.iload_n 3, 1) := by decide +kernel
theorem dX1_held_51 : decode cX1_held 51 = .ok (.invokevirtual 34, 3) := by decide +kernel
theorem dX1_held_54 : decode cX1_held 54 = .ok (.checkcast 45, 3) := by decide +kernel
theorem dX1_held_57 : decode cX1_held 57 = .ok (.areturn, 1) := by decide +kernel
theorem dX1_held_58 : decode cX1_held 58 = .ok (.iinc 3 1, 3) := by decide +kernel
theorem dX1_held_61 : decode cX1_held 61 = .ok (.goto (-44), 3) := by decide +kernel
theorem dX1_held_64 : decode cX1_held 64 = .ok (.aconst_null, 1) := by decide +kernel
theorem dX1_held_65 : decode cX1_held 65 = .ok (.areturn, 1) := by decide +kernel
theorem q37 : (Jvm.Cond.initialized "ReplicaDocument$Replica") ∈ lw_all := lw_g (lw_at lw_m1 2 rfl) rfl
theorem q68 : (Jvm.Cond.instantiable "ReplicaDocument$Replica" (3 : Nat)) ∈ lw_all := lw_g (lw_at lw_m1 33 rfl) rfl
theorem q70 : (Jvm.Cond.instanceMethod ({ cls := "ReplicaDocument$Replica", name := "<init>", desc := "()V" } : Jvm.MethodName)) ∈ lw_all := lw_g (lw_at lw_m1 35 rfl) rfl
theorem q71 : (Jvm.Cond.code ({ cls := "ReplicaDocument$Replica", name := "<init>", desc := "()V" } : Jvm.MethodName) prog_7_method_1_code (1 : Nat) (Option.none : Option Jvm.ClassFile.FieldType)) ∈ lw_all := lw_g (lw_at lw_m1 36 rfl) rfl
theorem q72 : (Jvm.Cond.methodLink "ReplicaDocument$Replica" (3 : Nat) ({ cls := "java/lang/Object", name := "<init>", desc := "()V" } : Jvm.MethodName)) ∈ lw_all := lw_g (lw_at lw_m1 37 rfl) rfl
theorem q73 : (Jvm.Cond.classLink "ReplicaDocument$Replica" (9 : Nat) "ReplicaDocument$MapNode") ∈ lw_all := lw_g (lw_at lw_m1 38 rfl) rfl
theorem q75 : (Jvm.Cond.methodLink "ReplicaDocument$Replica" (11 : Nat) ({ cls := "ReplicaDocument$MapNode", name := "<init>", desc := "(LReplicaDocument$Item;)V" } : Jvm.MethodName)) ∈ lw_all := lw_g (lw_at lw_m1 40 rfl) rfl
theorem q89 : (Jvm.Cond.classLink "ReplicaDocument$Replica" (20 : Nat) "java/util/ArrayList") ∈ lw_all := lw_g (lw_at lw_m1 54 rfl) rfl
theorem q91 : (Jvm.Cond.methodLink "ReplicaDocument$Replica" (22 : Nat) ({ cls := "java/util/ArrayList", name := "<init>", desc := "()V" } : Jvm.MethodName)) ∈ lw_all := lw_g (lw_at lw_m1 56 rfl) rfl
theorem q115 : (Jvm.Cond.fieldLink "ReplicaDocument$Replica" (14 : Nat) "ReplicaDocument$Replica" "root" "LReplicaDocument$MapNode;") ∈ lw_all := lw_g (lw_at lw_m1 80 rfl) rfl
theorem q117 : (Jvm.Cond.fieldLink "ReplicaDocument$Replica" (23 : Nat) "ReplicaDocument$Replica" "log" "Ljava/util/ArrayList;") ∈ lw_all := lw_g (lw_at lw_m1 82 rfl) rfl
theorem q119 : (Jvm.Cond.fieldLink "ReplicaDocument$Replica" (27 : Nat) "ReplicaDocument$Replica" "waiting" "Ljava/util/ArrayList;") ∈ lw_all := lw_g (lw_at lw_m1 84 rfl) rfl
theorem q121 : (Jvm.Cond.laysFinal "ReplicaDocument$Replica" "ReplicaDocument$Replica" "root" "LReplicaDocument$MapNode;") ∈ lw_all := lw_g (lw_at lw_m1 86 rfl) rfl
theorem q122 : (Jvm.Cond.soleField "ReplicaDocument$Replica" "root") ∈ lw_all := lw_g (lw_at lw_m1 87 rfl) rfl
theorem q123 : (Jvm.Cond.laysFinal "ReplicaDocument$Replica" "ReplicaDocument$Replica" "log" "Ljava/util/ArrayList;") ∈ lw_all := lw_g (lw_at lw_m1 88 rfl) rfl
theorem q124 : (Jvm.Cond.soleField "ReplicaDocument$Replica" "log") ∈ lw_all := lw_g (lw_at lw_m1 89 rfl) rfl
theorem q125 : (Jvm.Cond.laysFinal "ReplicaDocument$Replica" "ReplicaDocument$Replica" "waiting" "Ljava/util/ArrayList;") ∈ lw_all := lw_g (lw_at lw_m1 90 rfl) rfl
theorem q126 : (Jvm.Cond.soleField "ReplicaDocument$Replica" "waiting") ∈ lw_all := lw_g (lw_at lw_m1 91 rfl) rfl
theorem q127 : (Jvm.Cond.superclass "ReplicaDocument$Replica" "java/lang/Object") ∈ lw_all := lw_g (lw_at lw_m1 92 rfl) rfl
theorem q189 : (Jvm.Cond.instanceMethod ({ cls := "ReplicaDocument$Replica", name := "fits", desc := "(III)Z" } : Jvm.MethodName)) ∈ lw_all := lw_g (lw_at lw_m1 154 rfl) rfl
theorem q190 : (Jvm.Cond.selects "ReplicaDocument$Replica" ({ cls := "ReplicaDocument$Replica", name := "fits", desc := "(III)Z" } : Jvm.MethodName) ({ cls := "ReplicaDocument$Replica", name := "fits", desc := "(III)Z" } : Jvm.MethodName)) ∈ lw_all := lw_g (lw_at lw_m1 155 rfl) rfl
theorem q191 : (Jvm.Cond.code ({ cls := "ReplicaDocument$Replica", name := "fits", desc := "(III)Z" } : Jvm.MethodName) prog_7_method_7_code (6 : Nat) (Option.some Jvm.ClassFile.FieldType.boolean)) ∈ lw_all := lw_g (lw_at lw_m1 156 rfl) rfl
theorem q192 : (Jvm.Cond.methodLink "ReplicaDocument$Replica" (61 : Nat) ({ cls := "ReplicaDocument$Replica", name := "element", desc := "(I)LReplicaDocument$Item;" } : Jvm.MethodName)) ∈ lw_all := lw_g (lw_at lw_m1 157 rfl) rfl
theorem q193 : (Jvm.Cond.instanceMethod ({ cls := "ReplicaDocument$Replica", name := "element", desc := "(I)LReplicaDocument$Item;" } : Jvm.MethodName)) ∈ lw_all := lw_g (lw_at lw_m1 158 rfl) rfl
theorem q194 : (Jvm.Cond.selects "ReplicaDocument$Replica" ({ cls := "ReplicaDocument$Replica", name := "element", desc := "(I)LReplicaDocument$Item;" } : Jvm.MethodName) ({ cls := "ReplicaDocument$Replica", name := "element", desc := "(I)LReplicaDocument$Item;" } : Jvm.MethodName)) ∈ lw_all := lw_g (lw_at lw_m1 159 rfl) rfl
theorem q195 : (Jvm.Cond.code ({ cls := "ReplicaDocument$Replica", name := "element", desc := "(I)LReplicaDocument$Item;" } : Jvm.MethodName) prog_7_method_8_code (3 : Nat) (Option.some (Jvm.ClassFile.FieldType.object "ReplicaDocument$Item"))) ∈ lw_all := lw_g (lw_at lw_m1 160 rfl) rfl
theorem q196 : (Jvm.Cond.methodLink "ReplicaDocument$Replica" (53 : Nat) ({ cls := "ReplicaDocument$Replica", name := "item", desc := "(I)LReplicaDocument$Item;" } : Jvm.MethodName)) ∈ lw_all := lw_g (lw_at lw_m1 161 rfl) rfl
theorem q197 : (Jvm.Cond.instanceMethod ({ cls := "ReplicaDocument$Replica", name := "item", desc := "(I)LReplicaDocument$Item;" } : Jvm.MethodName)) ∈ lw_all := lw_g (lw_at lw_m1 162 rfl) rfl
theorem q198 : (Jvm.Cond.selects "ReplicaDocument$Replica" ({ cls := "ReplicaDocument$Replica", name := "item", desc := "(I)LReplicaDocument$Item;" } : Jvm.MethodName) ({ cls := "ReplicaDocument$Replica", name := "item", desc := "(I)LReplicaDocument$Item;" } : Jvm.MethodName)) ∈ lw_all := lw_g (lw_at lw_m1 163 rfl) rfl
theorem q199 : (Jvm.Cond.code ({ cls := "ReplicaDocument$Replica", name := "item", desc := "(I)LReplicaDocument$Item;" } : Jvm.MethodName) prog_7_method_3_code (3 : Nat) (Option.some (Jvm.ClassFile.FieldType.object "ReplicaDocument$Item"))) ∈ lw_all := lw_g (lw_at lw_m1 164 rfl) rfl
theorem q200 : (Jvm.Cond.methodLink "ReplicaDocument$Replica" (49 : Nat) ({ cls := "ReplicaDocument$Replica", name := "place", desc := "(I)I" } : Jvm.MethodName)) ∈ lw_all := lw_g (lw_at lw_m1 165 rfl) rfl
theorem q201 : (Jvm.Cond.instanceMethod ({ cls := "ReplicaDocument$Replica", name := "place", desc := "(I)I" } : Jvm.MethodName)) ∈ lw_all := lw_g (lw_at lw_m1 166 rfl) rfl
theorem q202 : (Jvm.Cond.selects "ReplicaDocument$Replica" ({ cls := "ReplicaDocument$Replica", name := "place", desc := "(I)I" } : Jvm.MethodName) ({ cls := "ReplicaDocument$Replica", name := "place", desc := "(I)I" } : Jvm.MethodName)) ∈ lw_all := lw_g (lw_at lw_m1 167 rfl) rfl
theorem q203 : (Jvm.Cond.code ({ cls := "ReplicaDocument$Replica", name := "place", desc := "(I)I" } : Jvm.MethodName) prog_7_method_2_code (3 : Nat) (Option.some Jvm.ClassFile.FieldType.int)) ∈ lw_all := lw_g (lw_at lw_m1 168 rfl) rfl
theorem q204 : (Jvm.Cond.methodLink "ReplicaDocument$Replica" (30 : Nat) ({ cls := "java/util/ArrayList", name := "size", desc := "()I" } : Jvm.MethodName)) ∈ lw_all := lw_g (lw_at lw_m1 169 rfl) rfl
theorem q208 : (Jvm.Cond.methodLink "ReplicaDocument$Replica" (34 : Nat) ({ cls := "java/util/ArrayList", name := "get", desc := "(I)Ljava/lang/Object;" } : Jvm.MethodName)) ∈ lw_all := lw_g (lw_at lw_m1 173 rfl) rfl
theorem q222 : (Jvm.Cond.classLink "ReplicaDocument$Replica" (38 : Nat) "ReplicaDocument$Item") ∈ lw_all := lw_g (lw_at lw_m1 187 rfl) rfl
theorem q223 : (Jvm.Cond.methodLink "ReplicaDocument$Replica" (44 : Nat) ({ cls := "ReplicaDocument$Op", name := "id", desc := "()I" } : Jvm.MethodName)) ∈ lw_all := lw_g (lw_at lw_m1 188 rfl) rfl
theorem q264 : (Jvm.Cond.methodLink "ReplicaDocument$Replica" (72 : Nat) ({ cls := "ReplicaDocument$Op", name := "kind", desc := "()I" } : Jvm.MethodName)) ∈ lw_all := lw_g (lw_at lw_m1 229 rfl) rfl
theorem q268 : (Jvm.Cond.methodLink "ReplicaDocument$Replica" (64 : Nat) ({ cls := "ReplicaDocument$Replica", name := "node", desc := "(I)LReplicaDocument$Node;" } : Jvm.MethodName)) ∈ lw_all := lw_g (lw_at lw_m1 233 rfl) rfl
theorem q269 : (Jvm.Cond.instanceMethod ({ cls := "ReplicaDocument$Replica", name := "node", desc := "(I)LReplicaDocument$Node;" } : Jvm.MethodName)) ∈ lw_all := lw_g (lw_at lw_m1 234 rfl) rfl
theorem q270 : (Jvm.Cond.selects "ReplicaDocument$Replica" ({ cls := "ReplicaDocument$Replica", name := "node", desc := "(I)LReplicaDocument$Node;" } : Jvm.MethodName) ({ cls := "ReplicaDocument$Replica", name := "node", desc := "(I)LReplicaDocument$Node;" } : Jvm.MethodName)) ∈ lw_all := lw_g (lw_at lw_m1 235 rfl) rfl
theorem q271 : (Jvm.Cond.code ({ cls := "ReplicaDocument$Replica", name := "node", desc := "(I)LReplicaDocument$Node;" } : Jvm.MethodName) prog_7_method_6_code (3 : Nat) (Option.some (Jvm.ClassFile.FieldType.object "ReplicaDocument$Node"))) ∈ lw_all := lw_g (lw_at lw_m1 236 rfl) rfl
theorem q272 : (Jvm.Cond.classLink "ReplicaDocument$Replica" (67 : Nat) "ReplicaDocument$ListNode") ∈ lw_all := lw_g (lw_at lw_m1 237 rfl) rfl
theorem q274 : (Jvm.Cond.instanceMethod ({ cls := "ReplicaDocument$Replica", name := "greatestCount", desc := "()I" } : Jvm.MethodName)) ∈ lw_all := lw_g (lw_at lw_m1 239 rfl) rfl
theorem q275 : (Jvm.Cond.selects "ReplicaDocument$Replica" ({ cls := "ReplicaDocument$Replica", name := "greatestCount", desc := "()I" } : Jvm.MethodName) ({ cls := "ReplicaDocument$Replica", name := "greatestCount", desc := "()I" } : Jvm.MethodName)) ∈ lw_all := lw_g (lw_at lw_m2 0 rfl) rfl
theorem q276 : (Jvm.Cond.code ({ cls := "ReplicaDocument$Replica", name := "greatestCount", desc := "()I" } : Jvm.MethodName) prog_7_method_14_code (3 : Nat) (Option.some Jvm.ClassFile.FieldType.int)) ∈ lw_all := lw_g (lw_at lw_m2 1 rfl) rfl
theorem q277 : (Jvm.Cond.methodLink "ReplicaDocument$Replica" (137 : Nat) ({ cls := "java/lang/Math", name := "max", desc := "(II)I" } : Jvm.MethodName)) ∈ lw_all := lw_g (lw_at lw_m2 2 rfl) rfl
theorem q281 : (Jvm.Cond.instanceMethod ({ cls := "ReplicaDocument$Replica", name := "size", desc := "()I" } : Jvm.MethodName)) ∈ lw_all := lw_g (lw_at lw_m2 6 rfl) rfl
theorem q282 : (Jvm.Cond.selects "ReplicaDocument$Replica" ({ cls := "ReplicaDocument$Replica", name := "size", desc := "()I" } : Jvm.MethodName) ({ cls := "ReplicaDocument$Replica", name := "size", desc := "()I" } : Jvm.MethodName)) ∈ lw_all := lw_g (lw_at lw_m2 7 rfl) rfl
theorem q283 : (Jvm.Cond.code ({ cls := "ReplicaDocument$Replica", name := "size", desc := "()I" } : Jvm.MethodName) prog_7_method_5_code (1 : Nat) (Option.some Jvm.ClassFile.FieldType.int)) ∈ lw_all := lw_g (lw_at lw_m2 8 rfl) rfl
theorem q457 : (Jvm.Cond.instanceMethod ({ cls := "ReplicaDocument$Replica", name := "apply", desc := "(LReplicaDocument$Op;)V" } : Jvm.MethodName)) ∈ lw_all := lw_g (lw_at lw_m2 182 rfl) rfl
theorem q458 : (Jvm.Cond.selects "ReplicaDocument$Replica" ({ cls := "ReplicaDocument$Replica", name := "apply", desc := "(LReplicaDocument$Op;)V" } : Jvm.MethodName) ({ cls := "ReplicaDocument$Replica", name := "apply", desc := "(LReplicaDocument$Op;)V" } : Jvm.MethodName)) ∈ lw_all := lw_g (lw_at lw_m2 183 rfl) rfl
theorem q459 : (Jvm.Cond.code ({ cls := "ReplicaDocument$Replica", name := "apply", desc := "(LReplicaDocument$Op;)V" } : Jvm.MethodName) prog_7_method_9_code (5 : Nat) (Option.none : Option Jvm.ClassFile.FieldType)) ∈ lw_all := lw_g (lw_at lw_m2 184 rfl) rfl
theorem q460 : (Jvm.Cond.methodLink "ReplicaDocument$Replica" (75 : Nat) ({ cls := "ReplicaDocument$Op", name := "many", desc := "()I" } : Jvm.MethodName)) ∈ lw_all := lw_g (lw_at lw_m2 185 rfl) rfl
theorem q464 : (Jvm.Cond.methodLink "ReplicaDocument$Replica" (78 : Nat) ({ cls := "ReplicaDocument$Op", name := "before", desc := "(I)I" } : Jvm.MethodName)) ∈ lw_all := lw_g (lw_at lw_m2 189 rfl) rfl
theorem q469 : (Jvm.Cond.methodLink "ReplicaDocument$Replica" (89 : Nat) ({ cls := "ReplicaDocument$Item", name := "<init>", desc := "(LReplicaDocument$Op;II)V" } : Jvm.MethodName)) ∈ lw_all := lw_g (lw_at lw_m2 194 rfl) rfl
theorem q474 : (Jvm.Cond.fieldLinkNest "ReplicaDocument$Replica" (40 : Nat) "ReplicaDocument$Item" "op" "LReplicaDocument$Op;" "ReplicaDocument") ∈ lw_tbl := lw_at lw_m2 199 rfl
theorem q479 : (Jvm.Cond.fieldLinkNest "ReplicaDocument$Replica" (81 : Nat) "ReplicaDocument$Item" "past" "I" "ReplicaDocument") ∈ lw_tbl := lw_at lw_m2 204 rfl
theorem q484 : (Jvm.Cond.fieldLinkNest "ReplicaDocument$Replica" (57 : Nat) "ReplicaDocument$Item" "node" "LReplicaDocument$Node;" "ReplicaDocument") ∈ lw_tbl := lw_at lw_m2 209 rfl
theorem q488 : (Jvm.Cond.fieldLinkNest "ReplicaDocument$Replica" (69 : Nat) "ReplicaDocument$Item" "home" "LReplicaDocument$Node;" "ReplicaDocument") ∈ lw_tbl := lw_at lw_m2 213 rfl
theorem q492 : (Jvm.Cond.fieldLinkNest "ReplicaDocument$Replica" (110 : Nat) "ReplicaDocument$Item" "shown" "Z" "ReplicaDocument") ∈ lw_tbl := lw_at lw_m2 217 rfl
theorem q494 : (Jvm.Cond.fieldLinkNest "ReplicaDocument$Replica" (85 : Nat) "ReplicaDocument$Item" "followed" "Z" "ReplicaDocument") ∈ lw_tbl := lw_at lw_m2 219 rfl
theorem q516 : (Jvm.Cond.methodLink "ReplicaDocument$Replica" (92 : Nat) ({ cls := "ReplicaDocument$ListNode", name := "<init>", desc := "(LReplicaDocument$Item;)V" } : Jvm.MethodName)) ∈ lw_all := lw_g (lw_at lw_m3 1 rfl) rfl
theorem q528 : (Jvm.Cond.methodLink "ReplicaDocument$Replica" (93 : Nat) ({ cls := "ReplicaDocument$Op", name := "target", desc := "()I" } : Jvm.MethodName)) ∈ lw_all := lw_g (lw_at lw_m3 13 rfl) rfl
theorem q532 : (Jvm.Cond.methodLink "ReplicaDocument$Replica" (96 : Nat) ({ cls := "ReplicaDocument$Op", name := "slot", desc := "()I" } : Jvm.MethodName)) ∈ lw_all := lw_g (lw_at lw_m3 17 rfl) rfl
theorem q536 : (Jvm.Cond.methodLink "ReplicaDocument$Replica" (99 : Nat) ({ cls := "ReplicaDocument$Replica", name := "fits", desc := "(III)Z" } : Jvm.MethodName)) ∈ lw_all := lw_g (lw_at lw_m3 21 rfl) rfl
theorem q537 : (Jvm.Cond.methodLink "ReplicaDocument$Replica" (103 : Nat) ({ cls := "java/util/ArrayList", name := "add", desc := "(Ljava/lang/Object;)Z" } : Jvm.MethodName)) ∈ lw_all := lw_g (lw_at lw_m3 22 rfl) rfl
theorem q565 : (Jvm.Cond.selects "ReplicaDocument$Replica" ({ cls := "java/lang/Object", name := "getClass", desc := "()Ljava/lang/Class;" } : Jvm.MethodName) ({ cls := "java/lang/Object", name := "getClass", desc := "()Ljava/lang/Class;" } : Jvm.MethodName)) ∈ lw_all := lw_g (lw_at lw_m3 50 rfl) rfl
theorem q579 : (Jvm.Cond.methodLink "ReplicaDocument$Replica" (107 : Nat) ({ cls := "ReplicaDocument$Replica", name := "change", desc := "(LReplicaDocument$Item;)V" } : Jvm.MethodName)) ∈ lw_all := lw_g (lw_at lw_m3 64 rfl) rfl
theorem q580 : (Jvm.Cond.privateMethod ({ cls := "ReplicaDocument$Replica", name := "change", desc := "(LReplicaDocument$Item;)V" } : Jvm.MethodName)) ∈ lw_tbl := lw_at lw_m3 65 rfl
theorem q581 : (Jvm.Cond.instanceMethod ({ cls := "ReplicaDocument$Replica", name := "change", desc := "(LReplicaDocument$Item;)V" } : Jvm.MethodName)) ∈ lw_all := lw_g (lw_at lw_m3 66 rfl) rfl
theorem q582 : (Jvm.Cond.code ({ cls := "ReplicaDocument$Replica", name := "change", desc := "(LReplicaDocument$Item;)V" } : Jvm.MethodName) prog_7_method_10_code (5 : Nat) (Option.none : Option Jvm.ClassFile.FieldType)) ∈ lw_all := lw_g (lw_at lw_m3 67 rfl) rfl
theorem q583 : (Jvm.Cond.methodLink "ReplicaDocument$Replica" (113 : Nat) ({ cls := "ReplicaDocument$ListNode", name := "add", desc := "(LReplicaDocument$Item;LReplicaDocument$Item;)V" } : Jvm.MethodName)) ∈ lw_all := lw_g (lw_at lw_m3 68 rfl) rfl
theorem q588 : (Jvm.Cond.methodLink "ReplicaDocument$Replica" (116 : Nat) ({ cls := "ReplicaDocument$MapNode", name := "drop", desc := "(II)V" } : Jvm.MethodName)) ∈ lw_all := lw_g (lw_at lw_m3 73 rfl) rfl
theorem q592 : (Jvm.Cond.methodLink "ReplicaDocument$Replica" (120 : Nat) ({ cls := "ReplicaDocument$MapNode", name := "add", desc := "(ILReplicaDocument$Item;)V" } : Jvm.MethodName)) ∈ lw_all := lw_g (lw_at lw_m3 77 rfl) rfl
theorem q598 : (Jvm.Cond.instanceMethod ({ cls := "ReplicaDocument$Replica", name := "settle", desc := "()I" } : Jvm.MethodName)) ∈ lw_all := lw_g (lw_at lw_m3 83 rfl) rfl
theorem q599 : (Jvm.Cond.selects "ReplicaDocument$Replica" ({ cls := "ReplicaDocument$Replica", name := "settle", desc := "()I" } : Jvm.MethodName) ({ cls := "ReplicaDocument$Replica", name := "settle", desc := "()I" } : Jvm.MethodName)) ∈ lw_all := lw_g (lw_at lw_m3 84 rfl) rfl
theorem q600 : (Jvm.Cond.code ({ cls := "ReplicaDocument$Replica", name := "settle", desc := "()I" } : Jvm.MethodName) prog_7_method_12_code (4 : Nat) (Option.some Jvm.ClassFile.FieldType.int)) ∈ lw_all := lw_g (lw_at lw_m3 85 rfl) rfl
theorem q601 : (Jvm.Cond.methodLink "ReplicaDocument$Replica" (123 : Nat) ({ cls := "ReplicaDocument$Replica", name := "leastReady", desc := "()I" } : Jvm.MethodName)) ∈ lw_all := lw_g (lw_at lw_m3 86 rfl) rfl
theorem q602 : (Jvm.Cond.privateMethod ({ cls := "ReplicaDocument$Replica", name := "leastReady", desc := "()I" } : Jvm.MethodName)) ∈ lw_tbl := lw_at lw_m3 87 rfl
theorem q603 : (Jvm.Cond.instanceMethod ({ cls := "ReplicaDocument$Replica", name := "leastReady", desc := "()I" } : Jvm.MethodName)) ∈ lw_all := lw_g (lw_at lw_m3 88 rfl) rfl
theorem q604 : (Jvm.Cond.code ({ cls := "ReplicaDocument$Replica", name := "leastReady", desc := "()I" } : Jvm.MethodName) prog_7_method_13_code (4 : Nat) (Option.some Jvm.ClassFile.FieldType.int)) ∈ lw_all := lw_g (lw_at lw_m3 89 rfl) rfl
theorem q605 : (Jvm.Cond.classLink "ReplicaDocument$Replica" (45 : Nat) "ReplicaDocument$Op") ∈ lw_all := lw_g (lw_at lw_m3 90 rfl) rfl
theorem q606 : (Jvm.Cond.methodLink "ReplicaDocument$Replica" (133 : Nat) ({ cls := "ReplicaDocument$Replica", name := "ready", desc := "(LReplicaDocument$Op;)Z" } : Jvm.MethodName)) ∈ lw_all := lw_g (lw_at lw_m3 91 rfl) rfl
theorem q607 : (Jvm.Cond.privateMethod ({ cls := "ReplicaDocument$Replica", name := "ready", desc := "(LReplicaDocument$Op;)Z" } : Jvm.MethodName)) ∈ lw_tbl := lw_at lw_m3 92 rfl
theorem q608 : (Jvm.Cond.instanceMethod ({ cls := "ReplicaDocument$Replica", name := "ready", desc := "(LReplicaDocument$Op;)Z" } : Jvm.MethodName)) ∈ lw_all := lw_g (lw_at lw_m3 93 rfl) rfl
theorem q609 : (Jvm.Cond.code ({ cls := "ReplicaDocument$Replica", name := "ready", desc := "(LReplicaDocument$Op;)Z" } : Jvm.MethodName) prog_7_method_11_code (3 : Nat) (Option.some Jvm.ClassFile.FieldType.boolean)) ∈ lw_all := lw_g (lw_at lw_m3 94 rfl) rfl
theorem q610 : (Jvm.Cond.methodLink "ReplicaDocument$Replica" (126 : Nat) ({ cls := "java/util/ArrayList", name := "remove", desc := "(I)Ljava/lang/Object;" } : Jvm.MethodName)) ∈ lw_all := lw_g (lw_at lw_m3 95 rfl) rfl
theorem q619 : (Jvm.Cond.methodLink "ReplicaDocument$Replica" (129 : Nat) ({ cls := "ReplicaDocument$Replica", name := "apply", desc := "(LReplicaDocument$Op;)V" } : Jvm.MethodName)) ∈ lw_all := lw_g (lw_at lw_m3 104 rfl) rfl
theorem q625 : (Jvm.Cond.instanceMethod ({ cls := "ReplicaDocument$Replica", name := "held", desc := "(I)LReplicaDocument$Op;" } : Jvm.MethodName)) ∈ lw_all := lw_g (lw_at lw_m3 110 rfl) rfl
theorem q626 : (Jvm.Cond.selects "ReplicaDocument$Replica" ({ cls := "ReplicaDocument$Replica", name := "held", desc := "(I)LReplicaDocument$Op;" } : Jvm.MethodName) ({ cls := "ReplicaDocument$Replica", name := "held", desc := "(I)LReplicaDocument$Op;" } : Jvm.MethodName)) ∈ lw_all := lw_g (lw_at lw_m3 111 rfl) rfl
theorem q627 : (Jvm.Cond.code ({ cls := "ReplicaDocument$Replica", name := "held", desc := "(I)LReplicaDocument$Op;" } : Jvm.MethodName) prog_7_method_4_code (4 : Nat) (Option.some (Jvm.ClassFile.FieldType.object "ReplicaDocument$Op"))) ∈ lw_all := lw_g (lw_at lw_m3 112 rfl) rfl
theorem q1047 : (Jvm.Cond.castable "ReplicaDocument$Replica" "java/lang/Object") ∈ lw_tbl := lw_at lw_m5 52 rfl
theorem in_X1 : ∀ w ∈ wsX10, w ∈ lw_all := lw_in wsX10 [121, 123, 125] (by decide +kernel) (by decide +kernel)

/-! ReplicaDocument$MapNode -/
def RX2 : String := "ReplicaDocument$MapNode"
def TX2 : u_T := fun k => match k with
  | 0 => ("ReplicaDocument$MapNode", "maker", "LReplicaDocument$Item;", true)
  | _ => ("ReplicaDocument$MapNode", "entries", "[LReplicaDocument$Item;", true)
def tyX2 : Nat → FieldType := fun k => match k with
  | 0 => .object "ReplicaDocument$Item"
  | _ => .array (.object "ReplicaDocument$Item")
abbrev wsX20 : List Cond := u_ws RX2 TX2 2
theorem nmX2 : ∀ a, a < 2 → ∀ b, b < 2 → a ≠ b → (TX2 a).2.1 ≠ (TX2 b).2.1 := by decide +kernel
theorem tyX2_ok : ∀ k, k < 2 → parseFieldDescriptor (TX2 k).2.2.1 = some (tyX2 k) := by decide +kernel
abbrev cX2_init : ByteArray := prog_4_method_1_code
def yX2_init : MethodName := ⟨RX2, "<init>", "(LReplicaDocument$Item;)V"⟩
theorem dX2_init_0 : decode cX2_init 0 = .ok (.aload_n 0, 1) := by decide +kernel
theorem dX2_init_1 : decode cX2_init 1 = .ok (.invokespecial 3, 3) := by decide +kernel
theorem dX2_init_4 : decode cX2_init 4 = .ok (.aload_n 0, 1) := by decide +kernel
theorem dX2_init_5 : decode cX2_init 5 = .ok (.iconst 4, 1) := by decide +kernel
theorem dX2_init_6 : decode cX2_init 6 = .ok (.anewarray 9, 3) := by decide +kernel
theorem dX2_init_9 : decode cX2_init 9 = .ok (.putfield 11, 3) := by decide +kernel
theorem dX2_init_12 : decode cX2_init 12 = .ok (.aload_n 0, 1) := by decide +kernel
theorem dX2_init_13 : decode cX2_init 13 = .ok (.aload_n 1, 1) := by decide +kernel
theorem dX2_init_14 : decode cX2_init 14 = .ok (.putfield 17, 3) := by decide +kernel
theorem dX2_init_17 : decode cX2_init 17 = .ok (.return_, 1) := by decide +kernel
abbrev cX2_drop : ByteArray := prog_4_method_3_code
def yX2_drop : MethodName := ⟨RX2, "drop", "(II)V"⟩
theorem dX2_drop_0 : decode cX2_drop 0 = .ok (.aconst_null, 1) := by decide +kernel
theorem dX2_drop_1 : decode cX2_drop 1 = .ok (.astore_n 3, 1) := by decide +kernel
theorem dX2_drop_2 : decode cX2_drop 2 = .ok (.aload_n 0, 1) := by decide +kernel
theorem dX2_drop_3 : decode cX2_drop 3 = .ok (.getfield 11, 3) := by decide +kernel
theorem dX2_drop_6 : decode cX2_drop 6 = .ok (.iload_n 1, 1) := by decide +kernel
theorem dX2_drop_7 : decode cX2_drop 7 = .ok (.aaload, 1) := by decide +kernel
theorem dX2_drop_8 : decode cX2_drop 8 = .ok (.astore 4, 2) := by decide +kernel
theorem dX2_drop_10 : decode cX2_drop 10 = .ok (.aload 4, 2) := by decide +kernel
theorem dX2_drop_12 : decode cX2_drop 12 = .ok (.ifnull 63, 3) := by decide +kernel
theorem dX2_drop_15 : decode cX2_drop 15 = .ok (.aload 4, 2) := by decide +kernel
theorem dX2_drop_17 : decode cX2_drop 17 = .ok (.getfield 21, 3) := by decide +kernel
theorem dX2_drop_20 : decode cX2_drop 20 = .ok (.astore 5, 2) := by decide +kernel
theorem dX2_drop_22 : decode cX2_drop 22 = .ok (.iload_n 2, 1) := by decide +kernel
theorem dX2_drop_23 : decode cX2_drop 23 = .ok (.aload 4, 2) := by decide +kernel
theorem dX2_drop_25 : decode cX2_drop 25 = .ok (.getfield 24, 3) := by decide +kernel
theorem dX2_drop_28 : decode cX2_drop 28 = .ok (.ishr, 1) := by decide +kernel
theorem dX2_drop_29 : decode cX2_drop 29 = .ok (.iconst 1, 1) := by decide +kernel
theorem dX2_drop_30 : decode cX2_drop 30 = .ok (.iand, 1) := by decide +kernel
theorem dX2_drop_31 : decode cX2_drop 31 = .ok (.iconst 1, 1) := by decide +kernel
theorem dX2_drop_32 : decode cX2_drop 32 = .ok (.if_icmp .ne 33, 3) := by decide +kernel
theorem dX2_drop_35 : decode cX2_drop 35 = .ok (.aload 4, 2) := by decide +kernel
theorem dX2_drop_37 : decode cX2_drop 37 = .ok (.iconst 0, 1) := by decide +kernel
theorem dX2_drop_38 : decode cX2_drop 38 = .ok (.putfield 28, 3) := by decide +kernel
theorem dX2_drop_41 : decode cX2_drop 41 = .ok (.aload_n 3, 1) := by decide +kernel
theorem dX2_drop_42 : decode cX2_drop 42 = .ok (.ifnonnull 14, 3) := by decide +kernel
theorem dX2_drop_45 : decode cX2_drop 45 = .ok (.aload_n 0, 1) := by decide +kernel
theorem dX2_drop_46 : decode cX2_drop 46 = .ok (.getfield 11, 3) := by decide +kernel
theorem dX2_drop_49 : decode cX2_drop 49 = .ok (.iload_n 1, 1) := by decide +kernel
theorem dX2_drop_50 : decode cX2_drop 50 = .ok (.aload 5, 2) := by decide +kernel
theorem dX2_drop_52 : decode cX2_drop 52 = .ok (.aastore, 1) := by decide +kernel
theorem dX2_drop_53 : decode cX2_drop 53 = .ok (.goto 15, 3) := by decide +kernel
theorem dX2_drop_56 : decode cX2_drop 56 = .ok (.aload_n 3, 1) := by decide +kernel
theorem dX2_drop_57 : decode cX2_drop 57 = .ok (.aload 5, 2) := by decide +kernel
theorem dX2_drop_59 : decode cX2_drop 59 = .ok (.putfield 21, 3) := by decide +kernel
theorem dX2_drop_62 : decode cX2_drop 62 = .ok (.goto 6, 3) := by decide +kernel
theorem dX2_drop_65 : decode cX2_drop 65 = .ok (.aload 4, 2) := by decide +kernel
theorem dX2_drop_67 : decode cX2_drop 67 = .ok (.astore_n 3, 1) := by decide +kernel
theorem dX2_drop_68 : decode cX2_drop 68 = .ok (.aload 5, 2) := by decide +kernel
theorem dX2_drop_70 : decode cX2_drop 70 = .ok (.astore 4, 2) := by decide +kernel
theorem dX2_drop_72 : decode cX2_drop 72 = .ok (.goto (-62), 3) := by decide +kernel
theorem dX2_drop_75 : decode cX2_drop 75 = .ok (.return_, 1) := by decide +kernel
abbrev cX2_add : ByteArray := prog_4_method_4_code
def yX2_add : MethodName := ⟨RX2, "add", "(ILReplicaDocument$Item;)V"⟩
theorem dX2_add_0 : decode cX2_add 0 = .ok (.aconst_null, 1) := by decide +kernel
theorem dX2_add_1 : decode cX2_add 1 = .ok (.astore_n 3, 1) := by decide +kernel
theorem dX2_add_2 : decode cX2_add 2 = .ok (.aload_n 0, 1) := by decide +kernel
theorem dX2_add_3 : decode cX2_add 3 = .ok (.getfield 11, 3) := by decide +kernel
theorem dX2_add_6 : decode cX2_add 6 = .ok (.iload_n 1, 1) := by decide +kernel
theorem dX2_add_7 : decode cX2_add 7 = .ok (.aaload, 1) := by decide +kernel
theorem dX2_add_8 : decode cX2_add 8 = .ok (.astore 4, 2) := by decide +kernel
theorem dX2_add_10 : decode cX2_add 10 = .ok (.aload 4, 2) := by decide +kernel
theorem dX2_add_12 : decode cX2_add 12 = .ok (.ifnull 34, 3) := by decide +kernel
theorem dX2_add_15 : decode cX2_add 15 = .ok (.aload 4, 2) := by decide +kernel
theorem dX2_add_17 : decode cX2_add 17 = .ok (.getfield 32, 3) := by decide +kernel
theorem dX2_add_20 : decode cX2_add 20 = .ok (.invokevirtual 36, 3) := by decide +kernel
theorem dX2_add_23 : decode cX2_add 23 = .ok (.aload_n 2, 1) := by decide +kernel
theorem dX2_add_24 : decode cX2_add 24 = .ok (.getfield 32, 3) := by decide +kernel
theorem dX2_add_27 : decode cX2_add 27 = .ok (.invokevirtual 36, 3) := by decide +kernel
theorem dX2_add_30 : decode cX2_add 30 = .ok (.if_icmp .ge 16, 3) := by decide +kernel
theorem dX2_add_33 : decode cX2_add 33 = .ok (.aload 4, 2) := by decide +kernel
theorem dX2_add_35 : decode cX2_add 35 = .ok (.astore_n 3, 1) := by decide +kernel
theorem dX2_add_36 : decode cX2_add 36 = .ok (.aload 4, 2) := by decide +kernel
theorem dX2_add_38 : decode cX2_add 38 = .ok (.getfield 21, 3) := by decide +kernel
theorem dX2_add_41 : decode cX2_add 41 = .ok (.astore 4, 2) := by decide +kernel
theorem dX2_add_43 : decode cX2_add 43 = .ok (.goto (-33), 3) := by decide +kernel
theorem dX2_add_46 : decode cX2_add 46 = .ok (.aload_n 2, 1) := by decide +kernel
theorem dX2_add_47 : decode cX2_add 47 = .ok (.aload 4, 2) := by decide +kernel
theorem dX2_add_49 : decode cX2_add 49 = .ok (.putfield 21, 3) := by decide +kernel
theorem dX2_add_52 : decode cX2_add 52 = .ok (.aload_n 2, 1) := by decide +kernel
theorem dX2_add_53 : decode cX2_add 53 = .ok (.aload_n 0, 1) := by decide +kernel
theorem dX2_add_54 : decode cX2_add 54 = .ok (.putfield 42, 3) := by decide +kernel
theorem dX2_add_57 : decode cX2_add 57 = .ok (.aload_n 2, 1) := by decide +kernel
theorem dX2_add_58 : decode cX2_add 58 = .ok (.iconst 1, 1) := by decide +kernel
theorem dX2_add_59 : decode cX2_add 59 = .ok (.putfield 28, 3) := by decide +kernel
theorem dX2_add_62 : decode cX2_add 62 = .ok (.aload_n 3, 1) := by decide +kernel
theorem dX2_add_63 : decode cX2_add 63 = .ok (.ifnonnull 13, 3) := by decide +kernel
theorem dX2_add_66 : decode cX2_add 66 = .ok (.aload_n 0, 1) := by decide +kernel
theorem dX2_add_67 : decode cX2_add 67 = .ok (.getfield 11, 3) := by decide +kernel
theorem dX2_add_70 : decode cX2_add 70 = .ok (.iload_n 1, 1) := by decide +kernel
theorem dX2_add_71 : decode cX2_add 71 = .ok (.aload_n 2, 1) := by decide +kernel
theorem dX2_add_72 : decode cX2_add 72 = .ok (.aastore, 1) := by decide +kernel
theorem dX2_add_73 : decode cX2_add 73 = .ok (.goto 8, 3) := by decide +kernel
theorem dX2_add_76 : decode cX2_add 76 = .ok (.aload_n 3, 1) := by decide +kernel
theorem dX2_add_77 : decode cX2_add 77 = .ok (.aload_n 2, 1) := by decide +kernel
theorem dX2_add_78 : decode cX2_add 78 = .ok (.putfield 21, 3) := by decide +kernel
theorem dX2_add_81 : decode cX2_add 81 = .ok (.return_, 1) := by decide +kernel
abbrev cX2_maker : ByteArray := prog_4_method_2_code
def yX2_maker : MethodName := ⟨RX2, "maker", "()LReplicaDocument$Item;"⟩
theorem dX2_maker_0 : decode cX2_maker 0 = .ok (.aload_n 0, 1) := by decide +kernel
theorem dX2_maker_1 : decode cX2_maker 1 = .ok (.getfield 17, 3) := by decide +kernel
theorem dX2_maker_4 : decode cX2_maker 4 = .ok (.areturn, 1) := by decide +kernel
abbrev cX2_sum : ByteArray := prog_4_method_5_code
def yX2_sum : MethodName := ⟨RX2, "sum", "(I)I"⟩
theorem dX2_sum_0 : decode cX2_sum 0 = .ok (.bipush 7, 2) := by decide +kernel
theorem dX2_sum_2 : decode cX2_sum 2 = .ok (.istore_n 2, 1) := by decide +kernel
theorem dX2_sum_3 : decode cX2_sum 3 = .ok (.iconst 0, 1) := by decide +kernel
theorem dX2_sum_4 : decode cX2_sum 4 = .ok (.istore_n 3, 1) := by decide +kernel
theorem dX2_sum_5 : decode cX2_sum 5 = .ok (.iload_n 3, 1) := by decide +kernel
theorem dX2_sum_6 : decode cX2_sum 6 = .ok (.iconst 4, 1) := by decide +kernel
theorem dX2_sum_7 : decode cX2_sum 7 = .ok (.if_icmp .ge 102, 3) := by decide +kernel
theorem dX2_sum_10 : decode cX2_sum 10 = .ok (.aload_n 0, 1) := by decide +kernel
theorem dX2_sum_11 : decode cX2_sum 11 = .ok (.getfield 11, 3) := by decide +kernel
theorem dX2_sum_14 : decode cX2_sum 14 = .ok (.iload_n 3, 1) := by decide +kernel
theorem dX2_sum_15 : decode cX2_sum 15 = .ok (.aaload, 1) := by decide +kernel
theorem dX2_sum_16 : decode cX2_sum 16 = .ok (.astore 4, 2) := by decide +kernel
theorem dX2_sum_18 : decode cX2_sum 18 = .ok (.aload 4, 2) := by decide +kernel
theorem dX2_sum_20 : decode cX2_sum 20 = .ok (.ifnull 83, 3) := by decide +kernel
theorem dX2_sum_23 : decode cX2_sum 23 = .ok (.aload 4, 2) := by decide +kernel
theorem dX2_sum_25 : decode cX2_sum 25 = .ok (.getfield 46, 3) := by decide +kernel
theorem dX2_sum_28 : decode cX2_sum 28 = .ok (.ifnonnull 14, 3) := by decide +kernel
theorem dX2_sum_31 : decode cX2_sum 31 = .ok (.aload 4, 2) := by decide +kernel
theorem dX2_sum_33 : decode cX2_sum 33 = .ok (.getfield 32, 3) := by decide +kernel
theorem dX2_sum_36 : decode cX2_sum 36 = .ok (.invokevirtual 49, 3) := by decide +kernel
theorem dX2_sum_39 : decode cX2_sum 39 = .ok (.goto 26, 3) := by decide +kernel
theorem dX2_sum_42 : decode cX2_sum 42 = .ok (.iload_n 1, 1) := by decide +kernel
theorem dX2_sum_43 : decode cX2_sum 43 = .ok (.bipush 40, 2) := by decide +kernel
theorem dX2_sum_45 : decode cX2_sum 45 = .ok (.if_icmp .ge 19, 3) := by decide +kernel
theorem dX2_sum_48 : decode cX2_sum 48 = .ok (.aload 4, 2) := by decide +kernel
theorem dX2_sum_50 : decode cX2_sum 50 = .ok (.getfield 46, 3) := by decide +kernel
theorem dX2_sum_53 : decode cX2_sum 53 = .ok (.iload_n 1, 1) := by decide +kernel
theorem dX2_sum_54 : decode cX2_sum 54 = .ok (.iconst 1, 1) := by decide +kernel
theorem dX2_sum_55 : decode cX2_sum 55 = .ok (.iadd, 1) := by decide +kernel
theorem dX2_sum_56 : decode cX2_sum 56 = .ok (.invokeinterface 52 2, 5) := by decide +kernel
theorem dX2_sum_61 : decode cX2_sum 61 = .ok (.goto 4, 3) := by decide +kernel
theorem dX2_sum_64 : decode cX2_sum 64 = .ok (.iconst 0, 1) := by decide +kernel
theorem dX2_sum_65 : decode cX2_sum 65 = .ok (.istore 5, 2) := by decide +kernel
theorem dX2_sum_67 : decode cX2_sum 67 = .ok (.bipush 31, 2) := by decide +kernel
theorem dX2_sum_69 : decode cX2_sum 69 = .ok (.iload_n 2, 1) := by decide +kernel
theorem dX2_sum_70 : decode cX2_sum 70 = .ok (.imul, 1) := by decide +kernel
theorem dX2_sum_71 : decode cX2_sum 71 = .ok (.iconst 4, 1) := by decide +kernel
theorem dX2_sum_72 : decode cX2_sum 72 = .ok (.aload 4, 2) := by decide +kernel
theorem dX2_sum_74 : decode cX2_sum 74 = .ok (.getfield 32, 3) := by decide +kernel
theorem dX2_sum_77 : decode cX2_sum 77 = .ok (.invokevirtual 36, 3) := by decide +kernel
theorem dX2_sum_80 : decode cX2_sum 80 = .ok (.imul, 1) := by decide +kernel
theorem dX2_sum_81 : decode cX2_sum 81 = .ok (.iadd, 1) := by decide +kernel
theorem dX2_sum_82 : decode cX2_sum 82 = .ok (.iload_n 3, 1) := by decide +kernel
theorem dX2_sum_83 : decode cX2_sum 83 = .ok (.iadd, 1) := by decide +kernel
theorem dX2_sum_84 : decode cX2_sum 84 = .ok (.istore_n 2, 1) := by decide +kernel
theorem dX2_sum_85 : decode cX2_sum 85 = .ok (.bipush 31, 2) := by decide +kernel
theorem dX2_sum_87 : decode cX2_sum 87 = .ok (.iload_n 2, 1) := by decide +kernel
theorem dX2_sum_88 : decode cX2_sum 88 = .ok (.imul, 1) := by decide +kernel
theorem dX2_sum_89 : decode cX2_sum 89 = .ok (.iload 5, 2) := by decide +kernel
theorem dX2_sum_91 : decode cX2_sum 91 = .ok (.iadd, 1) := by decide +kernel
theorem dX2_sum_92 : decode cX2_sum 92 = .ok (.istore_n 2, 1) := by decide +kernel
theorem dX2_sum_93 : decode cX2_sum 93 = .ok (.aload 4, 2) := by decide +kernel
theorem dX2_sum_95 : decode cX2_sum 95 = .ok (.getfield 21, 3) := by decide +kernel
theorem dX2_sum_98 : decode cX2_sum 98 = .ok (.astore 4, 2) := by decide +kernel
theorem dX2_sum_100 : decode cX2_sum 100 = .ok (.goto (-82), 3) := by decide +kernel
theorem dX2_sum_103 : decode cX2_sum 103 = .ok (.iinc 3 1, 3) := by decide +kernel
theorem dX2_sum_106 : decode cX2_sum 106 = .ok (.goto (-101), 3) := by decide +kernel
theorem dX2_sum_109 : decode cX2_sum 109 = .ok (.iload_n 2, 1) := by decide +kernel
theorem dX2_sum_110 : decode cX2_sum 110 = .ok (.ireturn, 1) := by decide +kernel
theorem q38 : (Jvm.Cond.initialized "ReplicaDocument$MapNode") ∈ lw_all := lw_g (lw_at lw_m1 3 rfl) rfl
theorem q74 : (Jvm.Cond.instantiable "ReplicaDocument$MapNode" (2 : Nat)) ∈ lw_all := lw_g (lw_at lw_m1 39 rfl) rfl
theorem q76 : (Jvm.Cond.instanceMethod ({ cls := "ReplicaDocument$MapNode", name := "<init>", desc := "(LReplicaDocument$Item;)V" } : Jvm.MethodName)) ∈ lw_all := lw_g (lw_at lw_m1 41 rfl) rfl
theorem q77 : (Jvm.Cond.code ({ cls := "ReplicaDocument$MapNode", name := "<init>", desc := "(LReplicaDocument$Item;)V" } : Jvm.MethodName) prog_4_method_1_code (2 : Nat) (Option.none : Option Jvm.ClassFile.FieldType)) ∈ lw_all := lw_g (lw_at lw_m1 42 rfl) rfl
theorem q78 : (Jvm.Cond.methodLink "ReplicaDocument$MapNode" (3 : Nat) ({ cls := "java/lang/Object", name := "<init>", desc := "()V" } : Jvm.MethodName)) ∈ lw_all := lw_g (lw_at lw_m1 43 rfl) rfl
theorem q79 : (Jvm.Cond.classLink "ReplicaDocument$MapNode" (9 : Nat) "ReplicaDocument$Item") ∈ lw_all := lw_g (lw_at lw_m1 44 rfl) rfl
theorem q81 : (Jvm.Cond.fieldLink "ReplicaDocument$MapNode" (17 : Nat) "ReplicaDocument$MapNode" "maker" "LReplicaDocument$Item;") ∈ lw_all := lw_g (lw_at lw_m1 46 rfl) rfl
theorem q82 : (Jvm.Cond.fieldLink "ReplicaDocument$MapNode" (11 : Nat) "ReplicaDocument$MapNode" "entries" "[LReplicaDocument$Item;") ∈ lw_all := lw_g (lw_at lw_m1 47 rfl) rfl
theorem q84 : (Jvm.Cond.laysFinal "ReplicaDocument$MapNode" "ReplicaDocument$MapNode" "maker" "LReplicaDocument$Item;") ∈ lw_all := lw_g (lw_at lw_m1 49 rfl) rfl
theorem q85 : (Jvm.Cond.soleField "ReplicaDocument$MapNode" "maker") ∈ lw_all := lw_g (lw_at lw_m1 50 rfl) rfl
theorem q86 : (Jvm.Cond.laysFinal "ReplicaDocument$MapNode" "ReplicaDocument$MapNode" "entries" "[LReplicaDocument$Item;") ∈ lw_all := lw_g (lw_at lw_m1 51 rfl) rfl
theorem q87 : (Jvm.Cond.soleField "ReplicaDocument$MapNode" "entries") ∈ lw_all := lw_g (lw_at lw_m1 52 rfl) rfl
theorem q88 : (Jvm.Cond.superclass "ReplicaDocument$MapNode" "java/lang/Object") ∈ lw_all := lw_g (lw_at lw_m1 53 rfl) rfl
theorem q476 : (Jvm.Cond.fieldLinkNest "ReplicaDocument$MapNode" (32 : Nat) "ReplicaDocument$Item" "op" "LReplicaDocument$Op;" "ReplicaDocument") ∈ lw_tbl := lw_at lw_m2 201 rfl
theorem q482 : (Jvm.Cond.fieldLinkNest "ReplicaDocument$MapNode" (24 : Nat) "ReplicaDocument$Item" "place" "I" "ReplicaDocument") ∈ lw_tbl := lw_at lw_m2 207 rfl
theorem q483 : (Jvm.Cond.fieldLinkNest "ReplicaDocument$MapNode" (46 : Nat) "ReplicaDocument$Item" "node" "LReplicaDocument$Node;" "ReplicaDocument") ∈ lw_tbl := lw_at lw_m2 208 rfl
theorem q486 : (Jvm.Cond.fieldLinkNest "ReplicaDocument$MapNode" (42 : Nat) "ReplicaDocument$Item" "home" "LReplicaDocument$Node;" "ReplicaDocument") ∈ lw_tbl := lw_at lw_m2 211 rfl
theorem q489 : (Jvm.Cond.fieldLinkNest "ReplicaDocument$MapNode" (28 : Nat) "ReplicaDocument$Item" "shown" "Z" "ReplicaDocument") ∈ lw_tbl := lw_at lw_m2 214 rfl
theorem q496 : (Jvm.Cond.fieldLinkNest "ReplicaDocument$MapNode" (21 : Nat) "ReplicaDocument$Item" "next" "LReplicaDocument$Item;" "ReplicaDocument") ∈ lw_tbl := lw_at lw_m2 221 rfl
theorem q563 : (Jvm.Cond.selects "ReplicaDocument$MapNode" ({ cls := "java/lang/Object", name := "getClass", desc := "()Ljava/lang/Class;" } : Jvm.MethodName) ({ cls := "java/lang/Object", name := "getClass", desc := "()Ljava/lang/Class;" } : Jvm.MethodName)) ∈ lw_all := lw_g (lw_at lw_m3 48 rfl) rfl
theorem q589 : (Jvm.Cond.instanceMethod ({ cls := "ReplicaDocument$MapNode", name := "drop", desc := "(II)V" } : Jvm.MethodName)) ∈ lw_all := lw_g (lw_at lw_m3 74 rfl) rfl
theorem q590 : (Jvm.Cond.selects "ReplicaDocument$MapNode" ({ cls := "ReplicaDocument$MapNode", name := "drop", desc := "(II)V" } : Jvm.MethodName) ({ cls := "ReplicaDocument$MapNode", name := "drop", desc := "(II)V" } : Jvm.MethodName)) ∈ lw_all := lw_g (lw_at lw_m3 75 rfl) rfl
theorem q591 : (Jvm.Cond.code ({ cls := "ReplicaDocument$MapNode", name := "drop", desc := "(II)V" } : Jvm.MethodName) prog_4_method_3_code (6 : Nat) (Option.none : Option Jvm.ClassFile.FieldType)) ∈ lw_all := lw_g (lw_at lw_m3 76 rfl) rfl
theorem q593 : (Jvm.Cond.instanceMethod ({ cls := "ReplicaDocument$MapNode", name := "add", desc := "(ILReplicaDocument$Item;)V" } : Jvm.MethodName)) ∈ lw_all := lw_g (lw_at lw_m3 78 rfl) rfl
theorem q594 : (Jvm.Cond.selects "ReplicaDocument$MapNode" ({ cls := "ReplicaDocument$MapNode", name := "add", desc := "(ILReplicaDocument$Item;)V" } : Jvm.MethodName) ({ cls := "ReplicaDocument$MapNode", name := "add", desc := "(ILReplicaDocument$Item;)V" } : Jvm.MethodName)) ∈ lw_all := lw_g (lw_at lw_m3 79 rfl) rfl
theorem q595 : (Jvm.Cond.code ({ cls := "ReplicaDocument$MapNode", name := "add", desc := "(ILReplicaDocument$Item;)V" } : Jvm.MethodName) prog_4_method_4_code (5 : Nat) (Option.none : Option Jvm.ClassFile.FieldType)) ∈ lw_all := lw_g (lw_at lw_m3 80 rfl) rfl
theorem q596 : (Jvm.Cond.methodLink "ReplicaDocument$MapNode" (36 : Nat) ({ cls := "ReplicaDocument$Op", name := "id", desc := "()I" } : Jvm.MethodName)) ∈ lw_all := lw_g (lw_at lw_m3 81 rfl) rfl
theorem q775 : (Jvm.Cond.castable "ReplicaDocument$MapNode" "ReplicaDocument$Node") ∈ lw_tbl := lw_at lw_m4 20 rfl
theorem q776 : (Jvm.Cond.selects "ReplicaDocument$MapNode" ({ cls := "ReplicaDocument$Node", name := "maker", desc := "()LReplicaDocument$Item;" } : Jvm.MethodName) ({ cls := "ReplicaDocument$MapNode", name := "maker", desc := "()LReplicaDocument$Item;" } : Jvm.MethodName)) ∈ lw_all := lw_g (lw_at lw_m4 21 rfl) rfl
theorem q777 : (Jvm.Cond.unhidden "ReplicaDocument$MapNode" "maker" "()LReplicaDocument$Item;") ∈ lw_tbl := lw_at lw_m4 22 rfl
theorem q778 : (Jvm.Cond.instanceMethod ({ cls := "ReplicaDocument$MapNode", name := "maker", desc := "()LReplicaDocument$Item;" } : Jvm.MethodName)) ∈ lw_all := lw_g (lw_at lw_m4 23 rfl) rfl
theorem q779 : (Jvm.Cond.publicMethod ({ cls := "ReplicaDocument$MapNode", name := "maker", desc := "()LReplicaDocument$Item;" } : Jvm.MethodName)) ∈ lw_tbl := lw_at lw_m4 24 rfl
theorem q780 : (Jvm.Cond.code ({ cls := "ReplicaDocument$MapNode", name := "maker", desc := "()LReplicaDocument$Item;" } : Jvm.MethodName) prog_4_method_2_code (1 : Nat) (Option.some (Jvm.ClassFile.FieldType.object "ReplicaDocument$Item"))) ∈ lw_all := lw_g (lw_at lw_m4 25 rfl) rfl
theorem q786 : (Jvm.Cond.instanceMethod ({ cls := "ReplicaDocument$MapNode", name := "sum", desc := "(I)I" } : Jvm.MethodName)) ∈ lw_all := lw_g (lw_at lw_m4 31 rfl) rfl
theorem q787 : (Jvm.Cond.selects "ReplicaDocument$MapNode" ({ cls := "ReplicaDocument$MapNode", name := "sum", desc := "(I)I" } : Jvm.MethodName) ({ cls := "ReplicaDocument$MapNode", name := "sum", desc := "(I)I" } : Jvm.MethodName)) ∈ lw_all := lw_g (lw_at lw_m4 32 rfl) rfl
theorem q788 : (Jvm.Cond.code ({ cls := "ReplicaDocument$MapNode", name := "sum", desc := "(I)I" } : Jvm.MethodName) prog_4_method_5_code (6 : Nat) (Option.some Jvm.ClassFile.FieldType.int)) ∈ lw_all := lw_g (lw_at lw_m4 33 rfl) rfl
theorem q789 : (Jvm.Cond.methodLink "ReplicaDocument$MapNode" (49 : Nat) ({ cls := "ReplicaDocument$Op", name := "value", desc := "()I" } : Jvm.MethodName)) ∈ lw_all := lw_g (lw_at lw_m4 34 rfl) rfl
theorem q790 : (Jvm.Cond.interfaceEntry "ReplicaDocument$MapNode" (52 : Nat)) ∈ lw_tbl := lw_at lw_m4 35 rfl
theorem q791 : (Jvm.Cond.methodLink "ReplicaDocument$MapNode" (52 : Nat) ({ cls := "ReplicaDocument$Node", name := "sum", desc := "(I)I" } : Jvm.MethodName)) ∈ lw_all := lw_g (lw_at lw_m4 36 rfl) rfl
theorem q800 : (Jvm.Cond.selects "ReplicaDocument$MapNode" ({ cls := "ReplicaDocument$Node", name := "sum", desc := "(I)I" } : Jvm.MethodName) ({ cls := "ReplicaDocument$MapNode", name := "sum", desc := "(I)I" } : Jvm.MethodName)) ∈ lw_all := lw_g (lw_at lw_m4 45 rfl) rfl
theorem q801 : (Jvm.Cond.unhidden "ReplicaDocument$MapNode" "sum" "(I)I") ∈ lw_tbl := lw_at lw_m4 46 rfl
theorem q802 : (Jvm.Cond.publicMethod ({ cls := "ReplicaDocument$MapNode", name := "sum", desc := "(I)I" } : Jvm.MethodName)) ∈ lw_tbl := lw_at lw_m4 47 rfl
theorem q1050 : (Jvm.Cond.castable "ReplicaDocument$MapNode" "java/lang/Object") ∈ lw_tbl := lw_at lw_m5 55 rfl
theorem in_X2 : ∀ w ∈ wsX20, w ∈ lw_all := lw_in wsX20 [84, 86] (by decide +kernel) (by decide +kernel)

/-! ReplicaDocument$Op -/
def RX4 : String := "ReplicaDocument$Op"
def TX4 : u_T := fun k => match k with
  | _ => ("ReplicaDocument$Op", "bytes", "Ljava/lang/String;", true)
def tyX4 : Nat → FieldType := fun k => match k with
  | _ => .object "java/lang/String"
abbrev wsX40 : List Cond := u_ws RX4 TX4 1
theorem nmX4 : ∀ a, a < 1 → ∀ b, b < 1 → a ≠ b → (TX4 a).2.1 ≠ (TX4 b).2.1 := by decide +kernel
theorem tyX4_ok : ∀ k, k < 1 → parseFieldDescriptor (TX4 k).2.2.1 = some (tyX4 k) := by decide +kernel
abbrev cX4_id : ByteArray := prog_6_method_2_code
def yX4_id : MethodName := ⟨RX4, "id", "()I"⟩
theorem dX4_id_0 : decode cX4_id 0 = .ok (.aload_n 0, 1) := by decide +kernel
theorem dX4_id_1 : decode cX4_id 1 = .ok (.getfield 7, 3) := by decide +kernel
theorem dX4_id_4 : decode cX4_id 4 = .ok (.iconst 0, 1) := by decide +kernel
theorem dX4_id_5 : decode cX4_id 5 = .ok (.invokevirtual 13, 3) := by decide +kernel
theorem dX4_id_8 : decode cX4_id 8 = .ok (.ireturn, 1) := by decide +kernel
abbrev cX4_kind : ByteArray := prog_6_method_3_code
def yX4_kind : MethodName := ⟨RX4, "kind", "()I"⟩
theorem dX4_kind_0 : decode cX4_kind 0 = .ok (.aload_n 0, 1) := by decide +kernel
theorem dX4_kind_1 : decode cX4_kind 1 = .ok (.getfield 7, 3) := by decide +kernel
theorem dX4_kind_4 : decode cX4_kind 4 = .ok (.iconst 1, 1) := by decide +kernel
theorem dX4_kind_5 : decode cX4_kind 5 = .ok (.invokevirtual 13, 3) := by decide +kernel
theorem dX4_kind_8 : decode cX4_kind 8 = .ok (.ireturn, 1) := by decide +kernel
abbrev cX4_init : ByteArray := prog_6_method_1_code
def yX4_init : MethodName := ⟨RX4, "<init>", "(Ljava/lang/String;)V"⟩
theorem dX4_init_0 : decode cX4_init 0 = .ok (.aload_n 0, 1) := by decide +kernel
theorem dX4_init_1 : decode cX4_init 1 = .ok (.invokespecial 1, 3) := by decide +kernel
theorem dX4_init_4 : decode cX4_init 4 = .ok (.aload_n 0, 1) := by decide +kernel
theorem dX4_init_5 : decode cX4_init 5 = .ok (.aload_n 1, 1) := by decide +kernel
theorem dX4_init_6 : decode cX4_init 6 = .ok (.putfield 7, 3) := by decide +kernel
theorem dX4_init_9 : decode cX4_init 9 = .ok (.return_, 1) := by decide +kernel
abbrev cX4_many : ByteArray := prog_6_method_7_code
def yX4_many : MethodName := ⟨RX4, "many", "()I"⟩
theorem dX4_many_0 : decode cX4_many 0 = .ok (.aload_n 0, 1) := by decide +kernel
theorem dX4_many_1 : decode cX4_many 1 = .ok (.getfield 7, 3) := by decide +kernel
theorem dX4_many_4 : decode cX4_many 4 = .ok (.iconst 5, 1) := by decide +kernel
theorem dX4_many_5 : decode cX4_many 5 = .ok (.invokevirtual 13, 3) := by decide +kernel
theorem dX4_many_8 : decode cX4_many 8 = .ok (.ireturn, 1) := by decide +kernel
abbrev cX4_before : ByteArray := prog_6_method_8_code
def yX4_before : MethodName := ⟨RX4, "before", "(I)I"⟩
theorem dX4_before_0 : decode cX4_before 0 = .ok (.aload_n 0, 1) := by decide +kernel
theorem dX4_before_1 : decode cX4_before 1 = .ok (.getfield 7, 3) := by decide +kernel
theorem dX4_before_4 : decode cX4_before 4 = .ok (.bipush 6, 2) := by decide +kernel
theorem dX4_before_6 : decode cX4_before 6 = .ok (.iload_n 1, 1) := by decide +kernel
theorem dX4_before_7 : decode cX4_before 7 = .ok (.iadd, 1) := by decide +kernel
theorem dX4_before_8 : decode cX4_before 8 = .ok (.invokevirtual 13, 3) := by decide +kernel
theorem dX4_before_11 : decode cX4_before 11 = .ok (.ireturn, 1) := by decide +kernel
abbrev cX4_target : ByteArray := prog_6_method_4_code
def yX4_target : MethodName := ⟨RX4, "target", "()I"⟩
theorem dX4_target_0 : decode cX4_target 0 = .ok (.aload_n 0, 1) := by decide +kernel
theorem dX4_target_1 : decode cX4_target 1 = .ok (.getfield 7, 3) := by decide +kernel
theorem dX4_target_4 : decode cX4_target 4 = .ok (.iconst 2, 1) := by decide +kernel
theorem dX4_target_5 : decode cX4_target 5 = .ok (.invokevirtual 13, 3) := by decide +kernel
theorem dX4_target_8 : decode cX4_target 8 = .ok (.ireturn, 1) := by decide +kernel
abbrev cX4_slot : ByteArray := prog_6_method_5_code
def yX4_slot : MethodName := ⟨RX4, "slot", "()I"⟩
theorem dX4_slot_0 : decode cX4_slot 0 = .ok (.aload_n 0, 1) := by decide +kernel
theorem dX4_slot_1 : decode cX4_slot 1 = .ok (.getfield 7, 3) := by decide +kernel
theorem dX4_slot_4 : decode cX4_slot 4 = .ok (.iconst 3, 1) := by decide +kernel
theorem dX4_slot_5 : decode cX4_slot 5 = .ok (.invokevirtual 13, 3) := by decide +kernel
theorem dX4_slot_8 : decode cX4_slot 8 = .ok (.ireturn, 1) := by decide +kernel
abbrev cX4_bytes : ByteArray := prog_6_method_13_code
def yX4_bytes : MethodName := ⟨RX4, "bytes", "()Ljava/lang/String;"⟩
theorem dX4_bytes_0 : decode cX4_bytes 0 = .ok (.aload_n 0, 1) := by decide +kernel
theorem dX4_bytes_1 : decode cX4_bytes 1 = .ok (.getfield 7, 3) := by decide +kernel
theorem dX4_bytes_4 : decode cX4_bytes 4 = .ok (.areturn, 1) := by decide +kernel
abbrev cX4_isOnWire : ByteArray := prog_6_method_9_code
def yX4_isOnWire : MethodName := ⟨RX4, "isOnWire", "(Ljava/lang/StringBuilder;)Z"⟩
theorem dX4_isOnWire_0 : decode cX4_isOnWire 0 = .ok (.aload_n 1, 1) := by decide +kernel
theorem dX4_isOnWire_1 : decode cX4_isOnWire 1 = .ok (.invokevirtual 19, 3) := by decide +kernel
theorem dX4_isOnWire_4 : decode cX4_isOnWire 4 = .ok (.aload_n 0, 1) := by decide +kernel
theorem dX4_isOnWire_5 : decode cX4_isOnWire 5 = .ok (.getfield 7, 3) := by decide +kernel
theorem dX4_isOnWire_8 : decode cX4_isOnWire 8 = .ok (.invokevirtual 25, 3) := by decide +kernel
theorem dX4_isOnWire_11 : decode cX4_isOnWire 11 = .ok (.if_icmp .eq 5, 3) := by decide +kernel
theorem dX4_isOnWire_14 : decode cX4_isOnWire 14 = .ok (.iconst 0, 1) := by decide +kernel
theorem dX4_isOnWire_15 : decode cX4_isOnWire 15 = .ok (.ireturn, 1) := by decide +kernel
theorem dX4_isOnWire_16 : decode cX4_isOnWire 16 = .ok (.iconst 0, 1) := by decide +kernel
theorem dX4_isOnWire_17 : decode cX4_isOnWire 17 = .ok (.istore_n 2, 1) := by decide +kernel
theorem dX4_isOnWire_18 : decode cX4_isOnWire 18 = .ok (.iload_n 2, 1) := by decide +kernel
theorem dX4_isOnWire_19 : decode cX4_isOnWire 19 = .ok (.aload_n 0, 1) := by decide +kernel
theorem dX4_isOnWire_20 : decode cX4_isOnWire 20 = .ok (.getfield 7, 3) := by decide +kernel
theorem dX4_isOnWire_23 : decode cX4_isOnWire 23 = .ok (.invokevirtual 25, 3) := by decide +kernel
theorem dX4_isOnWire_26 : decode cX4_isOnWire 26 = .ok (.if_icmp .ge 27, 3) := by decide +kernel
theorem dX4_isOnWire_29 : decode cX4_isOnWire 29 = .ok (.aload_n 1, 1) := by decide +kernel
theorem dX4_isOnWire_30 : decode cX4_isOnWire 30 = .ok (.iload_n 2, 1) := by decide +kernel
theorem dX4_isOnWire_31 : decode cX4_isOnWire 31 = .ok (.invokevirtual 26, 3) := by decide +kernel
theorem dX4_isOnWire_34 : decode cX4_isOnWire 34 = .ok (.aload_n 0, 1) := by decide +kernel
theorem dX4_isOnWire_35 : decode cX4_isOnWire 35 = .ok (.getfield 7, 3) := by decide +kernel
theorem dX4_isOnWire_38 : decode cX4_isOnWire 38 = .ok (.iload_n 2, 1) := by decide +kernel
theorem dX4_isOnWire_39 : decode cX4_isOnWire 39 = .ok (.invokevirtual 13, 3) := by decide +kernel
theorem dX4_isOnWire_42 : decode cX4_isOnWire 42 = .ok (.if_icmp .eq 5, 3) := by decide +kernel
theorem dX4_isOnWire_45 : decode cX4_isOnWire 45 = .ok (.iconst 0, 1) := by decide +kernel
theorem dX4_isOnWire_46 : decode cX4_isOnWire 46 = .ok (.ireturn, 1) := by decide +kernel
theorem dX4_isOnWire_47 : decode cX4_isOnWire 47 = .ok (.iinc 2 1, 3) := by decide +kernel
theorem dX4_isOnWire_50 : decode cX4_isOnWire 50 = .ok (.goto (-32), 3) := by decide +kernel
theorem dX4_isOnWire_53 : decode cX4_isOnWire 53 = .ok (.iconst 1, 1) := by decide +kernel
theorem dX4_isOnWire_54 : decode cX4_isOnWire 54 = .ok (.ireturn, 1) := by decide +kernel
abbrev cX4_value : ByteArray := prog_6_method_6_code
def yX4_value : MethodName := ⟨RX4, "value", "()I"⟩
theorem dX4_value_0 : decode cX4_value 0 = .ok (.aload_n 0, 1) := by decide +kernel
theorem dX4_value_1 : decode cX4_value 1 = .ok (.getfield 7, 3) := by decide +kernel
theorem dX4_value_4 : decode cX4_value 4 = .ok (.iconst 4, 1) := by decide +kernel
theorem dX4_value_5 : decode cX4_value 5 = .ok (.invokevirtual 13, 3) := by decide +kernel
theorem dX4_value_8 : decode cX4_value 8 = .ok (.ireturn, 1) := by decide +kernel
theorem q55 : (Jvm.Cond.initialized "ReplicaDocument$Op") ∈ lw_all := lw_g (lw_at lw_m1 20 rfl) rfl
theorem q224 : (Jvm.Cond.instanceMethod ({ cls := "ReplicaDocument$Op", name := "id", desc := "()I" } : Jvm.MethodName)) ∈ lw_all := lw_g (lw_at lw_m1 189 rfl) rfl
theorem q225 : (Jvm.Cond.selects "ReplicaDocument$Op" ({ cls := "ReplicaDocument$Op", name := "id", desc := "()I" } : Jvm.MethodName) ({ cls := "ReplicaDocument$Op", name := "id", desc := "()I" } : Jvm.MethodName)) ∈ lw_all := lw_g (lw_at lw_m1 190 rfl) rfl
theorem q226 : (Jvm.Cond.code ({ cls := "ReplicaDocument$Op", name := "id", desc := "()I" } : Jvm.MethodName) prog_6_method_2_code (1 : Nat) (Option.some Jvm.ClassFile.FieldType.int)) ∈ lw_all := lw_g (lw_at lw_m1 191 rfl) rfl
theorem q227 : (Jvm.Cond.methodLink "ReplicaDocument$Op" (13 : Nat) ({ cls := "java/lang/String", name := "charAt", desc := "(I)C" } : Jvm.MethodName)) ∈ lw_all := lw_g (lw_at lw_m1 192 rfl) rfl
theorem q265 : (Jvm.Cond.instanceMethod ({ cls := "ReplicaDocument$Op", name := "kind", desc := "()I" } : Jvm.MethodName)) ∈ lw_all := lw_g (lw_at lw_m1 230 rfl) rfl
theorem q266 : (Jvm.Cond.selects "ReplicaDocument$Op" ({ cls := "ReplicaDocument$Op", name := "kind", desc := "()I" } : Jvm.MethodName) ({ cls := "ReplicaDocument$Op", name := "kind", desc := "()I" } : Jvm.MethodName)) ∈ lw_all := lw_g (lw_at lw_m1 231 rfl) rfl
theorem q267 : (Jvm.Cond.code ({ cls := "ReplicaDocument$Op", name := "kind", desc := "()I" } : Jvm.MethodName) prog_6_method_3_code (1 : Nat) (Option.some Jvm.ClassFile.FieldType.int)) ∈ lw_all := lw_g (lw_at lw_m1 232 rfl) rfl
theorem q394 : (Jvm.Cond.instantiable "ReplicaDocument$Op" (1 : Nat)) ∈ lw_all := lw_g (lw_at lw_m2 119 rfl) rfl
theorem q446 : (Jvm.Cond.instanceMethod ({ cls := "ReplicaDocument$Op", name := "<init>", desc := "(Ljava/lang/String;)V" } : Jvm.MethodName)) ∈ lw_all := lw_g (lw_at lw_m2 171 rfl) rfl
theorem q447 : (Jvm.Cond.code ({ cls := "ReplicaDocument$Op", name := "<init>", desc := "(Ljava/lang/String;)V" } : Jvm.MethodName) prog_6_method_1_code (2 : Nat) (Option.none : Option Jvm.ClassFile.FieldType)) ∈ lw_all := lw_g (lw_at lw_m2 172 rfl) rfl
theorem q448 : (Jvm.Cond.methodLink "ReplicaDocument$Op" (1 : Nat) ({ cls := "java/lang/Record", name := "<init>", desc := "()V" } : Jvm.MethodName)) ∈ lw_all := lw_g (lw_at lw_m2 173 rfl) rfl
theorem q452 : (Jvm.Cond.fieldLink "ReplicaDocument$Op" (7 : Nat) "ReplicaDocument$Op" "bytes" "Ljava/lang/String;") ∈ lw_all := lw_g (lw_at lw_m2 177 rfl) rfl
theorem q453 : (Jvm.Cond.laysFinal "ReplicaDocument$Op" "ReplicaDocument$Op" "bytes" "Ljava/lang/String;") ∈ lw_all := lw_g (lw_at lw_m2 178 rfl) rfl
theorem q454 : (Jvm.Cond.soleField "ReplicaDocument$Op" "bytes") ∈ lw_all := lw_g (lw_at lw_m2 179 rfl) rfl
theorem q455 : (Jvm.Cond.superclass "ReplicaDocument$Op" "java/lang/Record") ∈ lw_all := lw_g (lw_at lw_m2 180 rfl) rfl
theorem q461 : (Jvm.Cond.instanceMethod ({ cls := "ReplicaDocument$Op", name := "many", desc := "()I" } : Jvm.MethodName)) ∈ lw_all := lw_g (lw_at lw_m2 186 rfl) rfl
theorem q462 : (Jvm.Cond.selects "ReplicaDocument$Op" ({ cls := "ReplicaDocument$Op", name := "many", desc := "()I" } : Jvm.MethodName) ({ cls := "ReplicaDocument$Op", name := "many", desc := "()I" } : Jvm.MethodName)) ∈ lw_all := lw_g (lw_at lw_m2 187 rfl) rfl
theorem q463 : (Jvm.Cond.code ({ cls := "ReplicaDocument$Op", name := "many", desc := "()I" } : Jvm.MethodName) prog_6_method_7_code (1 : Nat) (Option.some Jvm.ClassFile.FieldType.int)) ∈ lw_all := lw_g (lw_at lw_m2 188 rfl) rfl
theorem q465 : (Jvm.Cond.instanceMethod ({ cls := "ReplicaDocument$Op", name := "before", desc := "(I)I" } : Jvm.MethodName)) ∈ lw_all := lw_g (lw_at lw_m2 190 rfl) rfl
theorem q466 : (Jvm.Cond.selects "ReplicaDocument$Op" ({ cls := "ReplicaDocument$Op", name := "before", desc := "(I)I" } : Jvm.MethodName) ({ cls := "ReplicaDocument$Op", name := "before", desc := "(I)I" } : Jvm.MethodName)) ∈ lw_all := lw_g (lw_at lw_m2 191 rfl) rfl
theorem q467 : (Jvm.Cond.code ({ cls := "ReplicaDocument$Op", name := "before", desc := "(I)I" } : Jvm.MethodName) prog_6_method_8_code (2 : Nat) (Option.some Jvm.ClassFile.FieldType.int)) ∈ lw_all := lw_g (lw_at lw_m2 192 rfl) rfl
theorem q529 : (Jvm.Cond.instanceMethod ({ cls := "ReplicaDocument$Op", name := "target", desc := "()I" } : Jvm.MethodName)) ∈ lw_all := lw_g (lw_at lw_m3 14 rfl) rfl
theorem q530 : (Jvm.Cond.selects "ReplicaDocument$Op" ({ cls := "ReplicaDocument$Op", name := "target", desc := "()I" } : Jvm.MethodName) ({ cls := "ReplicaDocument$Op", name := "target", desc := "()I" } : Jvm.MethodName)) ∈ lw_all := lw_g (lw_at lw_m3 15 rfl) rfl
theorem q531 : (Jvm.Cond.code ({ cls := "ReplicaDocument$Op", name := "target", desc := "()I" } : Jvm.MethodName) prog_6_method_4_code (1 : Nat) (Option.some Jvm.ClassFile.FieldType.int)) ∈ lw_all := lw_g (lw_at lw_m3 16 rfl) rfl
theorem q533 : (Jvm.Cond.instanceMethod ({ cls := "ReplicaDocument$Op", name := "slot", desc := "()I" } : Jvm.MethodName)) ∈ lw_all := lw_g (lw_at lw_m3 18 rfl) rfl
theorem q534 : (Jvm.Cond.selects "ReplicaDocument$Op" ({ cls := "ReplicaDocument$Op", name := "slot", desc := "()I" } : Jvm.MethodName) ({ cls := "ReplicaDocument$Op", name := "slot", desc := "()I" } : Jvm.MethodName)) ∈ lw_all := lw_g (lw_at lw_m3 19 rfl) rfl
theorem q535 : (Jvm.Cond.code ({ cls := "ReplicaDocument$Op", name := "slot", desc := "()I" } : Jvm.MethodName) prog_6_method_5_code (1 : Nat) (Option.some Jvm.ClassFile.FieldType.int)) ∈ lw_all := lw_g (lw_at lw_m3 20 rfl) rfl
theorem q564 : (Jvm.Cond.selects "ReplicaDocument$Op" ({ cls := "java/lang/Object", name := "getClass", desc := "()Ljava/lang/Class;" } : Jvm.MethodName) ({ cls := "java/lang/Object", name := "getClass", desc := "()Ljava/lang/Class;" } : Jvm.MethodName)) ∈ lw_all := lw_g (lw_at lw_m3 49 rfl) rfl
theorem q629 : (Jvm.Cond.instanceMethod ({ cls := "ReplicaDocument$Op", name := "bytes", desc := "()Ljava/lang/String;" } : Jvm.MethodName)) ∈ lw_all := lw_g (lw_at lw_m3 114 rfl) rfl
theorem q630 : (Jvm.Cond.selects "ReplicaDocument$Op" ({ cls := "ReplicaDocument$Op", name := "bytes", desc := "()Ljava/lang/String;" } : Jvm.MethodName) ({ cls := "ReplicaDocument$Op", name := "bytes", desc := "()Ljava/lang/String;" } : Jvm.MethodName)) ∈ lw_all := lw_g (lw_at lw_m3 115 rfl) rfl
theorem q631 : (Jvm.Cond.code ({ cls := "ReplicaDocument$Op", name := "bytes", desc := "()Ljava/lang/String;" } : Jvm.MethodName) prog_6_method_13_code (1 : Nat) (Option.some (Jvm.ClassFile.FieldType.object "java/lang/String"))) ∈ lw_all := lw_g (lw_at lw_m3 116 rfl) rfl
theorem q707 : (Jvm.Cond.instanceMethod ({ cls := "ReplicaDocument$Op", name := "isOnWire", desc := "(Ljava/lang/StringBuilder;)Z" } : Jvm.MethodName)) ∈ lw_all := lw_g (lw_at lw_m3 192 rfl) rfl
theorem q708 : (Jvm.Cond.selects "ReplicaDocument$Op" ({ cls := "ReplicaDocument$Op", name := "isOnWire", desc := "(Ljava/lang/StringBuilder;)Z" } : Jvm.MethodName) ({ cls := "ReplicaDocument$Op", name := "isOnWire", desc := "(Ljava/lang/StringBuilder;)Z" } : Jvm.MethodName)) ∈ lw_all := lw_g (lw_at lw_m3 193 rfl) rfl
theorem q709 : (Jvm.Cond.code ({ cls := "ReplicaDocument$Op", name := "isOnWire", desc := "(Ljava/lang/StringBuilder;)Z" } : Jvm.MethodName) prog_6_method_9_code (3 : Nat) (Option.some Jvm.ClassFile.FieldType.boolean)) ∈ lw_all := lw_g (lw_at lw_m3 194 rfl) rfl
theorem q710 : (Jvm.Cond.methodLink "ReplicaDocument$Op" (19 : Nat) ({ cls := "java/lang/StringBuilder", name := "length", desc := "()I" } : Jvm.MethodName)) ∈ lw_all := lw_g (lw_at lw_m3 195 rfl) rfl
theorem q711 : (Jvm.Cond.methodLink "ReplicaDocument$Op" (25 : Nat) ({ cls := "java/lang/String", name := "length", desc := "()I" } : Jvm.MethodName)) ∈ lw_all := lw_g (lw_at lw_m3 196 rfl) rfl
theorem q712 : (Jvm.Cond.methodLink "ReplicaDocument$Op" (26 : Nat) ({ cls := "java/lang/StringBuilder", name := "charAt", desc := "(I)C" } : Jvm.MethodName)) ∈ lw_all := lw_g (lw_at lw_m3 197 rfl) rfl
theorem q755 : (Jvm.Cond.instanceMethod ({ cls := "ReplicaDocument$Op", name := "value", desc := "()I" } : Jvm.MethodName)) ∈ lw_all := lw_g (lw_at lw_m4 0 rfl) rfl
theorem q756 : (Jvm.Cond.selects "ReplicaDocument$Op" ({ cls := "ReplicaDocument$Op", name := "value", desc := "()I" } : Jvm.MethodName) ({ cls := "ReplicaDocument$Op", name := "value", desc := "()I" } : Jvm.MethodName)) ∈ lw_all := lw_g (lw_at lw_m4 1 rfl) rfl
theorem q757 : (Jvm.Cond.code ({ cls := "ReplicaDocument$Op", name := "value", desc := "()I" } : Jvm.MethodName) prog_6_method_6_code (1 : Nat) (Option.some Jvm.ClassFile.FieldType.int)) ∈ lw_all := lw_g (lw_at lw_m4 2 rfl) rfl
theorem q1054 : (Jvm.Cond.castable "ReplicaDocument$Op" "java/lang/Object") ∈ lw_tbl := lw_at lw_m5 59 rfl
theorem in_X4 : ∀ w ∈ wsX40, w ∈ lw_all := lw_in wsX40 [453] (by decide +kernel) (by decide +kernel)

/-! ReplicaDocument$Item -/
def RX5 : String := "ReplicaDocument$Item"
def TX5 : u_T := fun k => match k with
  | 0 => ("ReplicaDocument$Item", "op", "LReplicaDocument$Op;", true)
  | 1 => ("ReplicaDocument$Item", "past", "I", true)
  | 2 => ("ReplicaDocument$Item", "place", "I", true)
  | 3 => ("ReplicaDocument$Item", "node", "LReplicaDocument$Node;", false)
  | 4 => ("ReplicaDocument$Item", "home", "LReplicaDocument$Node;", false)
  | 5 => ("ReplicaDocument$Item", "shown", "Z", false)
  | 6 => ("ReplicaDocument$Item", "followed", "Z", false)
  | _ => ("ReplicaDocument$Item", "next", "LReplicaDocument$Item;", false)
def tyX5 : Nat → FieldType := fun k => match k with
  | 0 => .object "ReplicaDocument$Op"
  | 1 => .int
  | 2 => .int
  | 3 => .object "ReplicaDocument$Node"
  | 4 => .object "ReplicaDocument$Node"
  | 5 => .boolean
  | 6 => .boolean
  | _ => .object "ReplicaDocument$Item"
abbrev wsX50 : List Cond := u_ws RX5 TX5 8
theorem nmX5 : ∀ a, a < 8 → ∀ b, b < 8 → a ≠ b → (TX5 a).2.1 ≠ (TX5 b).2.1 := by decide +kernel
theorem tyX5_ok : ∀ k, k < 8 → parseFieldDescriptor (TX5 k).2.2.1 = some (tyX5 k) := by decide +kernel
abbrev cX5_init : ByteArray := prog_2_method_1_code
def yX5_init : MethodName := ⟨RX5, "<init>", "(LReplicaDocument$Op;II)V"⟩
theorem dX5_init_0 : decode cX5_init 0 = .ok (.aload_n 0, 1) := by decide +kernel
theorem dX5_init_1 : decode cX5_init 1 = .ok (.invokespecial 1, 3) := by decide +kernel
theorem dX5_init_4 : decode cX5_init 4 = .ok (.aload_n 0, 1) := by decide +kernel
theorem dX5_init_5 : decode cX5_init 5 = .ok (.aload_n 1, 1) := by decide +kernel
theorem dX5_init_6 : decode cX5_init 6 = .ok (.putfield 7, 3) := by decide +kernel
theorem dX5_init_9 : decode cX5_init 9 = .ok (.aload_n 0, 1) := by decide +kernel
theorem dX5_init_10 : decode cX5_init 10 = .ok (.iload_n 2, 1) := by decide +kernel
theorem dX5_init_11 : decode cX5_init 11 = .ok (.putfield 13, 3) := by decide +kernel
theorem dX5_init_14 : decode cX5_init 14 = .ok (.aload_n 0, 1) := by decide +kernel
theorem dX5_init_15 : decode cX5_init 15 = .ok (.iload_n 3, 1) := by decide +kernel
theorem dX5_init_16 : decode cX5_init 16 = .ok (.putfield 17, 3) := by decide +kernel
theorem dX5_init_19 : decode cX5_init 19 = .ok (.return_, 1) := by decide +kernel
theorem q56 : (Jvm.Cond.initialized "ReplicaDocument$Item") ∈ lw_all := lw_g (lw_at lw_m1 21 rfl) rfl
theorem q468 : (Jvm.Cond.instantiable "ReplicaDocument$Item" (8 : Nat)) ∈ lw_all := lw_g (lw_at lw_m2 193 rfl) rfl
theorem q470 : (Jvm.Cond.instanceMethod ({ cls := "ReplicaDocument$Item", name := "<init>", desc := "(LReplicaDocument$Op;II)V" } : Jvm.MethodName)) ∈ lw_all := lw_g (lw_at lw_m2 195 rfl) rfl
theorem q471 : (Jvm.Cond.code ({ cls := "ReplicaDocument$Item", name := "<init>", desc := "(LReplicaDocument$Op;II)V" } : Jvm.MethodName) prog_2_method_1_code (4 : Nat) (Option.none : Option Jvm.ClassFile.FieldType)) ∈ lw_all := lw_g (lw_at lw_m2 196 rfl) rfl
theorem q472 : (Jvm.Cond.methodLink "ReplicaDocument$Item" (1 : Nat) ({ cls := "java/lang/Object", name := "<init>", desc := "()V" } : Jvm.MethodName)) ∈ lw_all := lw_g (lw_at lw_m2 197 rfl) rfl
theorem q473 : (Jvm.Cond.fieldLink "ReplicaDocument$Item" (7 : Nat) "ReplicaDocument$Item" "op" "LReplicaDocument$Op;") ∈ lw_all := lw_g (lw_at lw_m2 198 rfl) rfl
theorem q478 : (Jvm.Cond.fieldLink "ReplicaDocument$Item" (13 : Nat) "ReplicaDocument$Item" "past" "I") ∈ lw_all := lw_g (lw_at lw_m2 203 rfl) rfl
theorem q481 : (Jvm.Cond.fieldLink "ReplicaDocument$Item" (17 : Nat) "ReplicaDocument$Item" "place" "I") ∈ lw_all := lw_g (lw_at lw_m2 206 rfl) rfl
theorem q498 : (Jvm.Cond.laysFinal "ReplicaDocument$Item" "ReplicaDocument$Item" "op" "LReplicaDocument$Op;") ∈ lw_all := lw_g (lw_at lw_m2 223 rfl) rfl
theorem q499 : (Jvm.Cond.soleField "ReplicaDocument$Item" "op") ∈ lw_all := lw_g (lw_at lw_m2 224 rfl) rfl
theorem q500 : (Jvm.Cond.laysFinal "ReplicaDocument$Item" "ReplicaDocument$Item" "past" "I") ∈ lw_all := lw_g (lw_at lw_m2 225 rfl) rfl
theorem q501 : (Jvm.Cond.soleField "ReplicaDocument$Item" "past") ∈ lw_all := lw_g (lw_at lw_m2 226 rfl) rfl
theorem q502 : (Jvm.Cond.laysFinal "ReplicaDocument$Item" "ReplicaDocument$Item" "place" "I") ∈ lw_all := lw_g (lw_at lw_m2 227 rfl) rfl
theorem q503 : (Jvm.Cond.soleField "ReplicaDocument$Item" "place") ∈ lw_all := lw_g (lw_at lw_m2 228 rfl) rfl
theorem q504 : (Jvm.Cond.lays "ReplicaDocument$Item" "ReplicaDocument$Item" "node" "LReplicaDocument$Node;") ∈ lw_all := lw_g (lw_at lw_m2 229 rfl) rfl
theorem q505 : (Jvm.Cond.soleField "ReplicaDocument$Item" "node") ∈ lw_all := lw_g (lw_at lw_m2 230 rfl) rfl
theorem q506 : (Jvm.Cond.lays "ReplicaDocument$Item" "ReplicaDocument$Item" "home" "LReplicaDocument$Node;") ∈ lw_all := lw_g (lw_at lw_m2 231 rfl) rfl
theorem q507 : (Jvm.Cond.soleField "ReplicaDocument$Item" "home") ∈ lw_all := lw_g (lw_at lw_m2 232 rfl) rfl
theorem q508 : (Jvm.Cond.lays "ReplicaDocument$Item" "ReplicaDocument$Item" "shown" "Z") ∈ lw_all := lw_g (lw_at lw_m2 233 rfl) rfl
theorem q509 : (Jvm.Cond.soleField "ReplicaDocument$Item" "shown") ∈ lw_all := lw_g (lw_at lw_m2 234 rfl) rfl
theorem q510 : (Jvm.Cond.lays "ReplicaDocument$Item" "ReplicaDocument$Item" "followed" "Z") ∈ lw_all := lw_g (lw_at lw_m2 235 rfl) rfl
theorem q511 : (Jvm.Cond.soleField "ReplicaDocument$Item" "followed") ∈ lw_all := lw_g (lw_at lw_m2 236 rfl) rfl
theorem q512 : (Jvm.Cond.lays "ReplicaDocument$Item" "ReplicaDocument$Item" "next" "LReplicaDocument$Item;") ∈ lw_all := lw_g (lw_at lw_m2 237 rfl) rfl
theorem q513 : (Jvm.Cond.soleField "ReplicaDocument$Item" "next") ∈ lw_all := lw_g (lw_at lw_m2 238 rfl) rfl
theorem q514 : (Jvm.Cond.superclass "ReplicaDocument$Item" "java/lang/Object") ∈ lw_all := lw_g (lw_at lw_m2 239 rfl) rfl
theorem q561 : (Jvm.Cond.selects "ReplicaDocument$Item" ({ cls := "java/lang/Object", name := "getClass", desc := "()Ljava/lang/Class;" } : Jvm.MethodName) ({ cls := "java/lang/Object", name := "getClass", desc := "()Ljava/lang/Class;" } : Jvm.MethodName)) ∈ lw_all := lw_g (lw_at lw_m3 46 rfl) rfl
theorem q1048 : (Jvm.Cond.castable "ReplicaDocument$Item" "java/lang/Object") ∈ lw_tbl := lw_at lw_m5 53 rfl
theorem in_X5 : ∀ w ∈ wsX50, w ∈ lw_all := lw_in wsX50 [498, 500, 502, 504, 506, 508, 510, 512] (by decide +kernel) (by decide +kernel)

/-! ReplicaDocument$ListNode -/
def RX6 : String := "ReplicaDocument$ListNode"
def TX6 : u_T := fun k => match k with
  | 0 => ("ReplicaDocument$ListNode", "maker", "LReplicaDocument$Item;", true)
  | _ => ("ReplicaDocument$ListNode", "first", "LReplicaDocument$Item;", false)
def tyX6 : Nat → FieldType := fun k => match k with
  | 0 => .object "ReplicaDocument$Item"
  | _ => .object "ReplicaDocument$Item"
abbrev wsX60 : List Cond := u_ws RX6 TX6 2
theorem nmX6 : ∀ a, a < 2 → ∀ b, b < 2 → a ≠ b → (TX6 a).2.1 ≠ (TX6 b).2.1 := by decide +kernel
theorem tyX6_ok : ∀ k, k < 2 → parseFieldDescriptor (TX6 k).2.2.1 = some (tyX6 k) := by decide +kernel
abbrev cX6_init : ByteArray := prog_3_method_1_code
def yX6_init : MethodName := ⟨RX6, "<init>", "(LReplicaDocument$Item;)V"⟩
theorem dX6_init_0 : decode cX6_init 0 = .ok (.aload_n 0, 1) := by decide +kernel
theorem dX6_init_1 : decode cX6_init 1 = .ok (.invokespecial 1, 3) := by decide +kernel
theorem dX6_init_4 : decode cX6_init 4 = .ok (.aload_n 0, 1) := by decide +kernel
theorem dX6_init_5 : decode cX6_init 5 = .ok (.aload_n 1, 1) := by decide +kernel
theorem dX6_init_6 : decode cX6_init 6 = .ok (.putfield 7, 3) := by decide +kernel
theorem dX6_init_9 : decode cX6_init 9 = .ok (.return_, 1) := by decide +kernel
abbrev cX6_add : ByteArray := prog_3_method_3_code
def yX6_add : MethodName := ⟨RX6, "add", "(LReplicaDocument$Item;LReplicaDocument$Item;)V"⟩
theorem dX6_add_0 : decode cX6_add 0 = .ok (.aload_n 1, 1) := by decide +kernel
theorem dX6_add_1 : decode cX6_add 1 = .ok (.astore_n 3, 1) := by decide +kernel
theorem dX6_add_2 : decode cX6_add 2 = .ok (.aload_n 1, 1) := by decide +kernel
theorem dX6_add_3 : decode cX6_add 3 = .ok (.ifnonnull 10, 3) := by decide +kernel
theorem dX6_add_6 : decode cX6_add 6 = .ok (.aload_n 0, 1) := by decide +kernel
theorem dX6_add_7 : decode cX6_add 7 = .ok (.getfield 13, 3) := by decide +kernel
theorem dX6_add_10 : decode cX6_add 10 = .ok (.goto 7, 3) := by decide +kernel
theorem dX6_add_13 : decode cX6_add 13 = .ok (.aload_n 1, 1) := by decide +kernel
theorem dX6_add_14 : decode cX6_add 14 = .ok (.getfield 16, 3) := by decide +kernel
theorem dX6_add_17 : decode cX6_add 17 = .ok (.astore 4, 2) := by decide +kernel
theorem dX6_add_19 : decode cX6_add 19 = .ok (.aload 4, 2) := by decide +kernel
theorem dX6_add_21 : decode cX6_add 21 = .ok (.ifnull 34, 3) := by decide +kernel
theorem dX6_add_24 : decode cX6_add 24 = .ok (.aload 4, 2) := by decide +kernel
theorem dX6_add_26 : decode cX6_add 26 = .ok (.getfield 21, 3) := by decide +kernel
theorem dX6_add_29 : decode cX6_add 29 = .ok (.invokevirtual 25, 3) := by decide +kernel
theorem dX6_add_32 : decode cX6_add 32 = .ok (.aload_n 2, 1) := by decide +kernel
theorem dX6_add_33 : decode cX6_add 33 = .ok (.getfield 21, 3) := by decide +kernel
theorem dX6_add_36 : decode cX6_add 36 = .ok (.invokevirtual 25, 3) := by decide +kernel
theorem dX6_add_39 : decode cX6_add 39 = .ok (.if_icmp .le 16, 3) := by decide +kernel
theorem dX6_add_42 : decode cX6_add 42 = .ok (.aload 4, 2) := by decide +kernel
theorem dX6_add_44 : decode cX6_add 44 = .ok (.astore_n 3, 1) := by decide +kernel
theorem dX6_add_45 : decode cX6_add 45 = .ok (.aload 4, 2) := by decide +kernel
theorem dX6_add_47 : decode cX6_add 47 = .ok (.getfield 16, 3) := by decide +kernel
theorem dX6_add_50 : decode cX6_add 50 = .ok (.astore 4, 2) := by decide +kernel
theorem dX6_add_52 : decode cX6_add 52 = .ok (.goto (-33), 3) := by decide +kernel
theorem dX6_add_55 : decode cX6_add 55 = .ok (.aload_n 2, 1) := by decide +kernel
theorem dX6_add_56 : decode cX6_add 56 = .ok (.aload 4, 2) := by decide +kernel
theorem dX6_add_58 : decode cX6_add 58 = .ok (.putfield 16, 3) := by decide +kernel
theorem dX6_add_61 : decode cX6_add 61 = .ok (.aload_n 2, 1) := by decide +kernel
theorem dX6_add_62 : decode cX6_add 62 = .ok (.aload_n 0, 1) := by decide +kernel
theorem dX6_add_63 : decode cX6_add 63 = .ok (.putfield 31, 3) := by decide +kernel
theorem dX6_add_66 : decode cX6_add 66 = .ok (.aload_n 2, 1) := by decide +kernel
theorem dX6_add_67 : decode cX6_add 67 = .ok (.iconst 1, 1) := by decide +kernel
theorem dX6_add_68 : decode cX6_add 68 = .ok (.putfield 35, 3) := by decide +kernel
theorem dX6_add_71 : decode cX6_add 71 = .ok (.aload_n 3, 1) := by decide +kernel
theorem dX6_add_72 : decode cX6_add 72 = .ok (.ifnonnull 11, 3) := by decide +kernel
theorem dX6_add_75 : decode cX6_add 75 = .ok (.aload_n 0, 1) := by decide +kernel
theorem dX6_add_76 : decode cX6_add 76 = .ok (.aload_n 2, 1) := by decide +kernel
theorem dX6_add_77 : decode cX6_add 77 = .ok (.putfield 13, 3) := by decide +kernel
theorem dX6_add_80 : decode cX6_add 80 = .ok (.goto 8, 3) := by decide +kernel
theorem dX6_add_83 : decode cX6_add 83 = .ok (.aload_n 3, 1) := by decide +kernel
theorem dX6_add_84 : decode cX6_add 84 = .ok (.aload_n 2, 1) := by decide +kernel
theorem dX6_add_85 : decode cX6_add 85 = .ok (.putfield 16, 3) := by decide +kernel
theorem dX6_add_88 : decode cX6_add 88 = .ok (.return_, 1) := by decide +kernel
abbrev cX6_maker : ByteArray := prog_3_method_2_code
def yX6_maker : MethodName := ⟨RX6, "maker", "()LReplicaDocument$Item;"⟩
theorem dX6_maker_0 : decode cX6_maker 0 = .ok (.aload_n 0, 1) := by decide +kernel
theorem dX6_maker_1 : decode cX6_maker 1 = .ok (.getfield 7, 3) := by decide +kernel
theorem dX6_maker_4 : decode cX6_maker 4 = .ok (.areturn, 1) := by decide +kernel
abbrev cX6_sum : ByteArray := prog_3_method_4_code
def yX6_sum : MethodName := ⟨RX6, "sum", "(I)I"⟩
theorem dX6_sum_0 : decode cX6_sum 0 = .ok (.bipush 11, 2) := by decide +kernel
theorem dX6_sum_2 : decode cX6_sum 2 = .ok (.istore_n 2, 1) := by decide +kernel
theorem dX6_sum_3 : decode cX6_sum 3 = .ok (.aload_n 0, 1) := by decide +kernel
theorem dX6_sum_4 : decode cX6_sum 4 = .ok (.getfield 13, 3) := by decide +kernel
theorem dX6_sum_7 : decode cX6_sum 7 = .ok (.astore_n 3, 1) := by decide +kernel
theorem dX6_sum_8 : decode cX6_sum 8 = .ok (.aload_n 3, 1) := by decide +kernel
theorem dX6_sum_9 : decode cX6_sum 9 = .ok (.ifnull 43, 3) := by decide +kernel
theorem dX6_sum_12 : decode cX6_sum 12 = .ok (.aload_n 3, 1) := by decide +kernel
theorem dX6_sum_13 : decode cX6_sum 13 = .ok (.getfield 35, 3) := by decide +kernel
theorem dX6_sum_16 : decode cX6_sum 16 = .ok (.ifCond .eq 28, 3) := by decide +kernel
theorem dX6_sum_19 : decode cX6_sum 19 = .ok (.bipush 31, 2) := by decide +kernel
theorem dX6_sum_21 : decode cX6_sum 21 = .ok (.iload_n 2, 1) := by decide +kernel
theorem dX6_sum_22 : decode cX6_sum 22 = .ok (.imul, 1) := by decide +kernel
theorem dX6_sum_23 : decode cX6_sum 23 = .ok (.sipush 128, 3) := by decide +kernel
theorem dX6_sum_26 : decode cX6_sum 26 = .ok (.aload_n 3, 1) := by decide +kernel
theorem dX6_sum_27 : decode cX6_sum 27 = .ok (.getfield 21, 3) := by decide +kernel
theorem dX6_sum_30 : decode cX6_sum 30 = .ok (.invokevirtual 25, 3) := by decide +kernel
theorem dX6_sum_33 : decode cX6_sum 33 = .ok (.imul, 1) := by decide +kernel
theorem dX6_sum_34 : decode cX6_sum 34 = .ok (.iadd, 1) := by decide +kernel
theorem dX6_sum_35 : decode cX6_sum 35 = .ok (.aload_n 3, 1) := by decide +kernel
theorem dX6_sum_36 : decode cX6_sum 36 = .ok (.getfield 21, 3) := by decide +kernel
theorem dX6_sum_39 : decode cX6_sum 39 = .ok (.invokevirtual 39, 3) := by decide +kernel
theorem dX6_sum_42 : decode cX6_sum 42 = .ok (.iadd, 1) := by decide +kernel
theorem dX6_sum_43 : decode cX6_sum 43 = .ok (.istore_n 2, 1) := by decide +kernel
theorem dX6_sum_44 : decode cX6_sum 44 = .ok (.aload_n 3, 1) := by decide +kernel
theorem dX6_sum_45 : decode cX6_sum 45 = .ok (.getfield 16, 3) := by decide +kernel
theorem dX6_sum_48 : decode cX6_sum 48 = .ok (.astore_n 3, 1) := by decide +kernel
theorem dX6_sum_49 : decode cX6_sum 49 = .ok (.goto (-41), 3) := by decide +kernel
theorem dX6_sum_52 : decode cX6_sum 52 = .ok (.iload_n 2, 1) := by decide +kernel
theorem dX6_sum_53 : decode cX6_sum 53 = .ok (.ireturn, 1) := by decide +kernel
theorem q57 : (Jvm.Cond.initialized "ReplicaDocument$ListNode") ∈ lw_all := lw_g (lw_at lw_m1 22 rfl) rfl
theorem q475 : (Jvm.Cond.fieldLinkNest "ReplicaDocument$ListNode" (21 : Nat) "ReplicaDocument$Item" "op" "LReplicaDocument$Op;" "ReplicaDocument") ∈ lw_tbl := lw_at lw_m2 200 rfl
theorem q485 : (Jvm.Cond.fieldLinkNest "ReplicaDocument$ListNode" (31 : Nat) "ReplicaDocument$Item" "home" "LReplicaDocument$Node;" "ReplicaDocument") ∈ lw_tbl := lw_at lw_m2 210 rfl
theorem q490 : (Jvm.Cond.fieldLinkNest "ReplicaDocument$ListNode" (35 : Nat) "ReplicaDocument$Item" "shown" "Z" "ReplicaDocument") ∈ lw_tbl := lw_at lw_m2 215 rfl
theorem q495 : (Jvm.Cond.fieldLinkNest "ReplicaDocument$ListNode" (16 : Nat) "ReplicaDocument$Item" "next" "LReplicaDocument$Item;" "ReplicaDocument") ∈ lw_tbl := lw_at lw_m2 220 rfl
theorem q515 : (Jvm.Cond.instantiable "ReplicaDocument$ListNode" (2 : Nat)) ∈ lw_all := lw_g (lw_at lw_m3 0 rfl) rfl
theorem q517 : (Jvm.Cond.instanceMethod ({ cls := "ReplicaDocument$ListNode", name := "<init>", desc := "(LReplicaDocument$Item;)V" } : Jvm.MethodName)) ∈ lw_all := lw_g (lw_at lw_m3 2 rfl) rfl
theorem q518 : (Jvm.Cond.code ({ cls := "ReplicaDocument$ListNode", name := "<init>", desc := "(LReplicaDocument$Item;)V" } : Jvm.MethodName) prog_3_method_1_code (2 : Nat) (Option.none : Option Jvm.ClassFile.FieldType)) ∈ lw_all := lw_g (lw_at lw_m3 3 rfl) rfl
theorem q519 : (Jvm.Cond.methodLink "ReplicaDocument$ListNode" (1 : Nat) ({ cls := "java/lang/Object", name := "<init>", desc := "()V" } : Jvm.MethodName)) ∈ lw_all := lw_g (lw_at lw_m3 4 rfl) rfl
theorem q520 : (Jvm.Cond.fieldLink "ReplicaDocument$ListNode" (7 : Nat) "ReplicaDocument$ListNode" "maker" "LReplicaDocument$Item;") ∈ lw_all := lw_g (lw_at lw_m3 5 rfl) rfl
theorem q521 : (Jvm.Cond.fieldLink "ReplicaDocument$ListNode" (13 : Nat) "ReplicaDocument$ListNode" "first" "LReplicaDocument$Item;") ∈ lw_all := lw_g (lw_at lw_m3 6 rfl) rfl
theorem q523 : (Jvm.Cond.laysFinal "ReplicaDocument$ListNode" "ReplicaDocument$ListNode" "maker" "LReplicaDocument$Item;") ∈ lw_all := lw_g (lw_at lw_m3 8 rfl) rfl
theorem q524 : (Jvm.Cond.soleField "ReplicaDocument$ListNode" "maker") ∈ lw_all := lw_g (lw_at lw_m3 9 rfl) rfl
theorem q525 : (Jvm.Cond.lays "ReplicaDocument$ListNode" "ReplicaDocument$ListNode" "first" "LReplicaDocument$Item;") ∈ lw_all := lw_g (lw_at lw_m3 10 rfl) rfl
theorem q526 : (Jvm.Cond.soleField "ReplicaDocument$ListNode" "first") ∈ lw_all := lw_g (lw_at lw_m3 11 rfl) rfl
theorem q527 : (Jvm.Cond.superclass "ReplicaDocument$ListNode" "java/lang/Object") ∈ lw_all := lw_g (lw_at lw_m3 12 rfl) rfl
theorem q562 : (Jvm.Cond.selects "ReplicaDocument$ListNode" ({ cls := "java/lang/Object", name := "getClass", desc := "()Ljava/lang/Class;" } : Jvm.MethodName) ({ cls := "java/lang/Object", name := "getClass", desc := "()Ljava/lang/Class;" } : Jvm.MethodName)) ∈ lw_all := lw_g (lw_at lw_m3 47 rfl) rfl
theorem q584 : (Jvm.Cond.instanceMethod ({ cls := "ReplicaDocument$ListNode", name := "add", desc := "(LReplicaDocument$Item;LReplicaDocument$Item;)V" } : Jvm.MethodName)) ∈ lw_all := lw_g (lw_at lw_m3 69 rfl) rfl
theorem q585 : (Jvm.Cond.selects "ReplicaDocument$ListNode" ({ cls := "ReplicaDocument$ListNode", name := "add", desc := "(LReplicaDocument$Item;LReplicaDocument$Item;)V" } : Jvm.MethodName) ({ cls := "ReplicaDocument$ListNode", name := "add", desc := "(LReplicaDocument$Item;LReplicaDocument$Item;)V" } : Jvm.MethodName)) ∈ lw_all := lw_g (lw_at lw_m3 70 rfl) rfl
theorem q586 : (Jvm.Cond.code ({ cls := "ReplicaDocument$ListNode", name := "add", desc := "(LReplicaDocument$Item;LReplicaDocument$Item;)V" } : Jvm.MethodName) prog_3_method_3_code (5 : Nat) (Option.none : Option Jvm.ClassFile.FieldType)) ∈ lw_all := lw_g (lw_at lw_m3 71 rfl) rfl
theorem q587 : (Jvm.Cond.methodLink "ReplicaDocument$ListNode" (25 : Nat) ({ cls := "ReplicaDocument$Op", name := "id", desc := "()I" } : Jvm.MethodName)) ∈ lw_all := lw_g (lw_at lw_m3 72 rfl) rfl
theorem q769 : (Jvm.Cond.castable "ReplicaDocument$ListNode" "ReplicaDocument$Node") ∈ lw_tbl := lw_at lw_m4 14 rfl
theorem q770 : (Jvm.Cond.selects "ReplicaDocument$ListNode" ({ cls := "ReplicaDocument$Node", name := "maker", desc := "()LReplicaDocument$Item;" } : Jvm.MethodName) ({ cls := "ReplicaDocument$ListNode", name := "maker", desc := "()LReplicaDocument$Item;" } : Jvm.MethodName)) ∈ lw_all := lw_g (lw_at lw_m4 15 rfl) rfl
theorem q771 : (Jvm.Cond.unhidden "ReplicaDocument$ListNode" "maker" "()LReplicaDocument$Item;") ∈ lw_tbl := lw_at lw_m4 16 rfl
theorem q772 : (Jvm.Cond.instanceMethod ({ cls := "ReplicaDocument$ListNode", name := "maker", desc := "()LReplicaDocument$Item;" } : Jvm.MethodName)) ∈ lw_all := lw_g (lw_at lw_m4 17 rfl) rfl
theorem q773 : (Jvm.Cond.publicMethod ({ cls := "ReplicaDocument$ListNode", name := "maker", desc := "()LReplicaDocument$Item;" } : Jvm.MethodName)) ∈ lw_tbl := lw_at lw_m4 18 rfl
theorem q774 : (Jvm.Cond.code ({ cls := "ReplicaDocument$ListNode", name := "maker", desc := "()LReplicaDocument$Item;" } : Jvm.MethodName) prog_3_method_2_code (1 : Nat) (Option.some (Jvm.ClassFile.FieldType.object "ReplicaDocument$Item"))) ∈ lw_all := lw_g (lw_at lw_m4 19 rfl) rfl
theorem q794 : (Jvm.Cond.selects "ReplicaDocument$ListNode" ({ cls := "ReplicaDocument$Node", name := "sum", desc := "(I)I" } : Jvm.MethodName) ({ cls := "ReplicaDocument$ListNode", name := "sum", desc := "(I)I" } : Jvm.MethodName)) ∈ lw_all := lw_g (lw_at lw_m4 39 rfl) rfl
theorem q795 : (Jvm.Cond.unhidden "ReplicaDocument$ListNode" "sum" "(I)I") ∈ lw_tbl := lw_at lw_m4 40 rfl
theorem q796 : (Jvm.Cond.instanceMethod ({ cls := "ReplicaDocument$ListNode", name := "sum", desc := "(I)I" } : Jvm.MethodName)) ∈ lw_all := lw_g (lw_at lw_m4 41 rfl) rfl
theorem q797 : (Jvm.Cond.publicMethod ({ cls := "ReplicaDocument$ListNode", name := "sum", desc := "(I)I" } : Jvm.MethodName)) ∈ lw_tbl := lw_at lw_m4 42 rfl
theorem q798 : (Jvm.Cond.code ({ cls := "ReplicaDocument$ListNode", name := "sum", desc := "(I)I" } : Jvm.MethodName) prog_3_method_4_code (4 : Nat) (Option.some Jvm.ClassFile.FieldType.int)) ∈ lw_all := lw_g (lw_at lw_m4 43 rfl) rfl
theorem q799 : (Jvm.Cond.methodLink "ReplicaDocument$ListNode" (39 : Nat) ({ cls := "ReplicaDocument$Op", name := "value", desc := "()I" } : Jvm.MethodName)) ∈ lw_all := lw_g (lw_at lw_m4 44 rfl) rfl
theorem q1056 : (Jvm.Cond.castable "ReplicaDocument$ListNode" "java/lang/Object") ∈ lw_tbl := lw_at lw_m5 61 rfl
theorem in_X6 : ∀ w ∈ wsX60, w ∈ lw_all := lw_in wsX60 [523, 525] (by decide +kernel) (by decide +kernel)

theorem q767 : (Jvm.Cond.interfaceMethod "ReplicaDocument$Node" "ReplicaDocument$Node" "maker" "()LReplicaDocument$Item;") ∈ lw_tbl := lw_at lw_m4 12 rfl
theorem q768 : (Jvm.Cond.declares ({ cls := "ReplicaDocument$Node", name := "maker", desc := "()LReplicaDocument$Item;" } : Jvm.MethodName)) ∈ lw_tbl := lw_at lw_m4 13 rfl
theorem q792 : (Jvm.Cond.interfaceMethod "ReplicaDocument$Node" "ReplicaDocument$Node" "sum" "(I)I") ∈ lw_tbl := lw_at lw_m4 37 rfl
theorem q793 : (Jvm.Cond.declares ({ cls := "ReplicaDocument$Node", name := "sum", desc := "(I)I" } : Jvm.MethodName)) ∈ lw_tbl := lw_at lw_m4 38 rfl

theorem q312 : (Jvm.Cond.sameMethod "[B" "java/lang/Object" "clone" "()Ljava/lang/Object;") ∈ lw_all := lw_g (lw_at lw_m2 37 rfl) rfl
theorem q315 : (Jvm.Cond.selects "[B" ({ cls := "[B", name := "clone", desc := "()Ljava/lang/Object;" } : Jvm.MethodName) ({ cls := "java/lang/Object", name := "clone", desc := "()Ljava/lang/Object;" } : Jvm.MethodName)) ∈ lw_all := lw_g (lw_at lw_m2 40 rfl) rfl
theorem q316 : (Jvm.Cond.castable "[B" "java/lang/Cloneable") ∈ lw_tbl := lw_at lw_m2 41 rfl
theorem q1062 : (Jvm.Cond.castable "[B" "java/lang/Object") ∈ lw_tbl := lw_at lw_m5 67 rfl

theorem q1057 : (Jvm.Cond.sameMethod "[Ljava/lang/Object;" "java/lang/Object" "getClass" "()Ljava/lang/Class;") ∈ lw_all := lw_g (lw_at lw_m5 62 rfl) rfl
theorem q1058 : (Jvm.Cond.selects "[Ljava/lang/Object;" ({ cls := "java/lang/Object", name := "getClass", desc := "()Ljava/lang/Class;" } : Jvm.MethodName) ({ cls := "java/lang/Object", name := "getClass", desc := "()Ljava/lang/Class;" } : Jvm.MethodName)) ∈ lw_all := lw_g (lw_at lw_m5 63 rfl) rfl
theorem q1063 : (Jvm.Cond.castable "[Ljava/lang/Object;" "java/lang/Object") ∈ lw_tbl := lw_at lw_m5 68 rfl

theorem q1060 : (Jvm.Cond.castable "[LReplicaDocument$Replica;" "java/lang/Object") ∈ lw_tbl := lw_at lw_m5 65 rfl

theorem q1061 : (Jvm.Cond.castable "[LReplicaDocument$Item;" "java/lang/Object") ∈ lw_tbl := lw_at lw_m5 66 rfl

theorem q1064 : (Jvm.Cond.castable "[I" "java/lang/Object") ∈ lw_tbl := lw_at lw_m5 69 rfl

theorem q1065 : (Jvm.Cond.castable "[Z" "java/lang/Object") ∈ lw_tbl := lw_at lw_m5 70 rfl

theorem q53 : (Jvm.Cond.initialized "java/lang/System") ∈ lw_all := lw_g (lw_at lw_m1 18 rfl) rfl
theorem q322 : (Jvm.Cond.static ({ cls := "java/lang/System", name := "arraycopy", desc := "(Ljava/lang/Object;ILjava/lang/Object;II)V" } : Jvm.MethodName)) ∈ lw_all := lw_g (lw_at lw_m2 47 rfl) rfl
theorem q323 : (Jvm.Cond.native ({ cls := "java/lang/System", name := "arraycopy", desc := "(Ljava/lang/Object;ILjava/lang/Object;II)V" } : Jvm.MethodName)) ∈ lw_all := lw_g (lw_at lw_m2 48 rfl) rfl

theorem q67 : (Jvm.Cond.arrayOver (Jvm.ClassFile.FieldType.object "ReplicaDocument$Replica")) ∈ lw_tbl := lw_at lw_m1 32 rfl
theorem q80 : (Jvm.Cond.arrayOver (Jvm.ClassFile.FieldType.object "ReplicaDocument$Item")) ∈ lw_tbl := lw_at lw_m1 45 rfl
theorem q160 : (Jvm.Cond.arrayClass Jvm.ClassFile.FieldType.byte) ∈ lw_all := lw_g (lw_at lw_m1 125 rfl) rfl
theorem q575 : (Jvm.Cond.arrayOver (Jvm.ClassFile.FieldType.object "java/lang/Object")) ∈ lw_tbl := lw_at lw_m3 60 rfl
theorem q858 : (Jvm.Cond.arrayClass Jvm.ClassFile.FieldType.int) ∈ lw_all := lw_g (lw_at lw_m4 103 rfl) rfl
theorem q859 : (Jvm.Cond.arrayClass Jvm.ClassFile.FieldType.boolean) ∈ lw_all := lw_g (lw_at lw_m4 104 rfl) rfl

theorem q35 : (Jvm.Cond.initialized "ReplicaDocumentLaw") ∈ lw_all := lw_g (lw_at lw_m1 0 rfl) rfl
theorem q58 : (Jvm.Cond.classLink "ReplicaDocumentLaw" (7 : Nat) "ReplicaDocument") ∈ lw_all := lw_g (lw_at lw_m1 23 rfl) rfl
theorem q60 : (Jvm.Cond.methodLink "ReplicaDocumentLaw" (9 : Nat) ({ cls := "ReplicaDocument", name := "<init>", desc := "()V" } : Jvm.MethodName)) ∈ lw_all := lw_g (lw_at lw_m1 25 rfl) rfl
theorem q171 : (Jvm.Cond.methodLink "ReplicaDocumentLaw" (13 : Nat) ({ cls := "ReplicaDocument", name := "edit", desc := "(IIIII)I" } : Jvm.MethodName)) ∈ lw_all := lw_g (lw_at lw_m1 136 rfl) rfl
theorem q620 : (Jvm.Cond.methodLink "ReplicaDocumentLaw" (18 : Nat) ({ cls := "ReplicaDocument", name := "emit", desc := "(II)I" } : Jvm.MethodName)) ∈ lw_all := lw_g (lw_at lw_m3 105 rfl) rfl
theorem q678 : (Jvm.Cond.methodLink "ReplicaDocumentLaw" (23 : Nat) ({ cls := "ReplicaDocument", name := "wire", desc := "(I)I" } : Jvm.MethodName)) ∈ lw_all := lw_g (lw_at lw_m3 163 rfl) rfl
theorem q691 : (Jvm.Cond.methodLink "ReplicaDocumentLaw" (28 : Nat) ({ cls := "ReplicaDocument", name := "alter", desc := "(II)Z" } : Jvm.MethodName)) ∈ lw_all := lw_g (lw_at lw_m3 176 rfl) rfl
theorem q695 : (Jvm.Cond.methodLink "ReplicaDocumentLaw" (33 : Nat) ({ cls := "ReplicaDocument", name := "cut", desc := "(I)Z" } : Jvm.MethodName)) ∈ lw_all := lw_g (lw_at lw_m3 180 rfl) rfl
theorem q699 : (Jvm.Cond.methodLink "ReplicaDocumentLaw" (38 : Nat) ({ cls := "ReplicaDocument", name := "receive", desc := "(I)I" } : Jvm.MethodName)) ∈ lw_all := lw_g (lw_at lw_m3 184 rfl) rfl
theorem q718 : (Jvm.Cond.methodLink "ReplicaDocumentLaw" (42 : Nat) ({ cls := "ReplicaDocument", name := "held", desc := "(I)I" } : Jvm.MethodName)) ∈ lw_all := lw_g (lw_at lw_m3 203 rfl) rfl
theorem q722 : (Jvm.Cond.methodLink "ReplicaDocumentLaw" (46 : Nat) ({ cls := "ReplicaDocument", name := "log", desc := "(II)I" } : Jvm.MethodName)) ∈ lw_all := lw_g (lw_at lw_m3 207 rfl) rfl
theorem q730 : (Jvm.Cond.methodLink "ReplicaDocumentLaw" (50 : Nat) ({ cls := "ReplicaDocument", name := "past", desc := "(III)Z" } : Jvm.MethodName)) ∈ lw_all := lw_g (lw_at lw_m3 215 rfl) rfl
theorem q735 : (Jvm.Cond.methodLink "ReplicaDocumentLaw" (55 : Nat) ({ cls := "ReplicaDocument", name := "heads", desc := "(I)I" } : Jvm.MethodName)) ∈ lw_all := lw_g (lw_at lw_m3 220 rfl) rfl
theorem q739 : (Jvm.Cond.methodLink "ReplicaDocumentLaw" (59 : Nat) ({ cls := "ReplicaDocument", name := "entry", desc := "(IIII)I" } : Jvm.MethodName)) ∈ lw_all := lw_g (lw_at lw_m3 224 rfl) rfl
theorem q745 : (Jvm.Cond.methodLink "ReplicaDocumentLaw" (64 : Nat) ({ cls := "ReplicaDocument", name := "element", desc := "(III)I" } : Jvm.MethodName)) ∈ lw_all := lw_g (lw_at lw_m3 230 rfl) rfl
theorem q750 : (Jvm.Cond.methodLink "ReplicaDocumentLaw" (69 : Nat) ({ cls := "ReplicaDocument", name := "value", desc := "(II)I" } : Jvm.MethodName)) ∈ lw_all := lw_g (lw_at lw_m3 235 rfl) rfl
theorem q758 : (Jvm.Cond.methodLink "ReplicaDocumentLaw" (73 : Nat) ({ cls := "ReplicaDocument", name := "depth", desc := "(II)I" } : Jvm.MethodName)) ∈ lw_all := lw_g (lw_at lw_m4 3 rfl) rfl
theorem q781 : (Jvm.Cond.methodLink "ReplicaDocumentLaw" (77 : Nat) ({ cls := "ReplicaDocument", name := "sum", desc := "(I)I" } : Jvm.MethodName)) ∈ lw_all := lw_g (lw_at lw_m4 26 rfl) rfl
theorem q803 : (Jvm.Cond.methodLink "ReplicaDocumentLaw" (81 : Nat) ({ cls := "ReplicaDocument", name := "level", desc := "(II)Z" } : Jvm.MethodName)) ∈ lw_all := lw_g (lw_at lw_m4 48 rfl) rfl
theorem q815 : (Jvm.Cond.classLink "ReplicaDocumentLaw" (10 : Nat) "ReplicaDocumentModel") ∈ lw_all := lw_g (lw_at lw_m4 60 rfl) rfl
theorem q817 : (Jvm.Cond.methodLink "ReplicaDocumentLaw" (12 : Nat) ({ cls := "ReplicaDocumentModel", name := "<init>", desc := "()V" } : Jvm.MethodName)) ∈ lw_all := lw_g (lw_at lw_m4 62 rfl) rfl
theorem q860 : (Jvm.Cond.methodLink "ReplicaDocumentLaw" (17 : Nat) ({ cls := "ReplicaDocumentModel", name := "edit", desc := "(IIIII)I" } : Jvm.MethodName)) ∈ lw_all := lw_g (lw_at lw_m4 105 rfl) rfl
theorem q911 : (Jvm.Cond.methodLink "ReplicaDocumentLaw" (22 : Nat) ({ cls := "ReplicaDocumentModel", name := "emit", desc := "(II)I" } : Jvm.MethodName)) ∈ lw_all := lw_g (lw_at lw_m4 156 rfl) rfl
theorem q915 : (Jvm.Cond.methodLink "ReplicaDocumentLaw" (27 : Nat) ({ cls := "ReplicaDocumentModel", name := "wire", desc := "(I)I" } : Jvm.MethodName)) ∈ lw_all := lw_g (lw_at lw_m4 160 rfl) rfl
theorem q919 : (Jvm.Cond.methodLink "ReplicaDocumentLaw" (32 : Nat) ({ cls := "ReplicaDocumentModel", name := "alter", desc := "(II)Z" } : Jvm.MethodName)) ∈ lw_all := lw_g (lw_at lw_m4 164 rfl) rfl
theorem q923 : (Jvm.Cond.methodLink "ReplicaDocumentLaw" (37 : Nat) ({ cls := "ReplicaDocumentModel", name := "cut", desc := "(I)Z" } : Jvm.MethodName)) ∈ lw_all := lw_g (lw_at lw_m4 168 rfl) rfl
theorem q927 : (Jvm.Cond.methodLink "ReplicaDocumentLaw" (41 : Nat) ({ cls := "ReplicaDocumentModel", name := "receive", desc := "(I)I" } : Jvm.MethodName)) ∈ lw_all := lw_g (lw_at lw_m4 172 rfl) rfl
theorem q946 : (Jvm.Cond.methodLink "ReplicaDocumentLaw" (45 : Nat) ({ cls := "ReplicaDocumentModel", name := "held", desc := "(I)I" } : Jvm.MethodName)) ∈ lw_all := lw_g (lw_at lw_m4 191 rfl) rfl
theorem q950 : (Jvm.Cond.methodLink "ReplicaDocumentLaw" (49 : Nat) ({ cls := "ReplicaDocumentModel", name := "log", desc := "(II)I" } : Jvm.MethodName)) ∈ lw_all := lw_g (lw_at lw_m4 195 rfl) rfl
theorem q954 : (Jvm.Cond.methodLink "ReplicaDocumentLaw" (54 : Nat) ({ cls := "ReplicaDocumentModel", name := "past", desc := "(III)Z" } : Jvm.MethodName)) ∈ lw_all := lw_g (lw_at lw_m4 199 rfl) rfl
theorem q958 : (Jvm.Cond.methodLink "ReplicaDocumentLaw" (58 : Nat) ({ cls := "ReplicaDocumentModel", name := "heads", desc := "(I)I" } : Jvm.MethodName)) ∈ lw_all := lw_g (lw_at lw_m4 203 rfl) rfl
theorem q962 : (Jvm.Cond.methodLink "ReplicaDocumentLaw" (72 : Nat) ({ cls := "ReplicaDocumentModel", name := "value", desc := "(II)I" } : Jvm.MethodName)) ∈ lw_all := lw_g (lw_at lw_m4 207 rfl) rfl
theorem q966 : (Jvm.Cond.methodLink "ReplicaDocumentLaw" (84 : Nat) ({ cls := "ReplicaDocumentModel", name := "level", desc := "(II)Z" } : Jvm.MethodName)) ∈ lw_all := lw_g (lw_at lw_m4 211 rfl) rfl
theorem q974 : (Jvm.Cond.methodLink "ReplicaDocumentLaw" (63 : Nat) ({ cls := "ReplicaDocumentModel", name := "entry", desc := "(IIII)I" } : Jvm.MethodName)) ∈ lw_all := lw_g (lw_at lw_m4 219 rfl) rfl
theorem q990 : (Jvm.Cond.methodLink "ReplicaDocumentLaw" (68 : Nat) ({ cls := "ReplicaDocumentModel", name := "element", desc := "(III)I" } : Jvm.MethodName)) ∈ lw_all := lw_g (lw_at lw_m4 235 rfl) rfl
theorem q1018 : (Jvm.Cond.methodLink "ReplicaDocumentLaw" (76 : Nat) ({ cls := "ReplicaDocumentModel", name := "depth", desc := "(II)I" } : Jvm.MethodName)) ∈ lw_all := lw_g (lw_at lw_m5 23 rfl) rfl
theorem q1022 : (Jvm.Cond.methodLink "ReplicaDocumentLaw" (80 : Nat) ({ cls := "ReplicaDocumentModel", name := "sum", desc := "(I)I" } : Jvm.MethodName)) ∈ lw_all := lw_g (lw_at lw_m5 27 rfl) rfl

