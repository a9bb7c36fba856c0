-- ===== PART A: goes FIRST, ahead of the names: the tables' words, and 'selects' of the private methods out of them =====
/-- a private method of a class that the tables say can be made, by its rows of tables_1 -/
def lw_okq (q : MethodName × Nat) : Prop := (q.1.cls ≠ "java/lang/invoke/MethodHandle" ∧ q.1.cls ≠ "java/lang/invoke/VarHandle") ∧ Cond.instantiable q.1.cls q.2 ∈ tables_1 ∧ Cond.privateMethod q.1 ∈ tables_1 ∧ Cond.instanceMethod q.1 ∈ tables_1
theorem lw_p0 : lw_okq (⟨"HomeDirectory", "core", "(I)LHomeDirectory$Core;"⟩, 9) := ⟨⟨by decide +kernel, by decide +kernel⟩, List.mem_of_getElem? (i := 22) (by decide +kernel), List.mem_of_getElem? (i := 343) (by decide +kernel), List.mem_of_getElem? (i := 344) (by decide +kernel)⟩
theorem lw_p1 : lw_okq (⟨"HomeDirectory", "access", "(LHomeDirectory$Core;LHomeDirectory$Op;II)I"⟩, 9) := ⟨⟨by decide +kernel, by decide +kernel⟩, List.mem_of_getElem? (i := 22) (by decide +kernel), List.mem_of_getElem? (i := 379) (by decide +kernel), List.mem_of_getElem? (i := 380) (by decide +kernel)⟩
theorem lw_p2 : lw_okq (⟨"HomeDirectory", "perform", "(LHomeDirectory$Core;LHomeDirectory$Op;LHomeDirectory$Line;)V"⟩, 9) := ⟨⟨by decide +kernel, by decide +kernel⟩, List.mem_of_getElem? (i := 22) (by decide +kernel), List.mem_of_getElem? (i := 384) (by decide +kernel), List.mem_of_getElem? (i := 385) (by decide +kernel)⟩
theorem lw_p3 : lw_okq (⟨"HomeDirectory$Home", "shares", "(I)Z"⟩, 6) := ⟨⟨by decide +kernel, by decide +kernel⟩, List.mem_of_getElem? (i := 200) (by decide +kernel), List.mem_of_getElem? (i := 510) (by decide +kernel), List.mem_of_getElem? (i := 511) (by decide +kernel)⟩
theorem lw_p4 : lw_okq (⟨"HomeDirectory$Home", "gives", "(I)Z"⟩, 6) := ⟨⟨by decide +kernel, by decide +kernel⟩, List.mem_of_getElem? (i := 200) (by decide +kernel), List.mem_of_getElem? (i := 529) (by decide +kernel), List.mem_of_getElem? (i := 530) (by decide +kernel)⟩
theorem lw_p5 : lw_okq (⟨"HomeDirectory$Home", "takesBack", "(ILHomeDirectory$Message;)V"⟩, 6) := ⟨⟨by decide +kernel, by decide +kernel⟩, List.mem_of_getElem? (i := 200) (by decide +kernel), List.mem_of_getElem? (i := 548) (by decide +kernel), List.mem_of_getElem? (i := 549) (by decide +kernel)⟩
theorem lw_p6 : lw_okq (⟨"HomeDirectory", "wake", "(LHomeDirectory$Line;LHomeDirectory$Kind;)V"⟩, 9) := ⟨⟨by decide +kernel, by decide +kernel⟩, List.mem_of_getElem? (i := 22) (by decide +kernel), List.mem_of_getElem? (i := 601) (by decide +kernel), List.mem_of_getElem? (i := 602) (by decide +kernel)⟩
theorem lw_p7 : lw_okq (⟨"HomeDirectory", "lineOf", "(II)LHomeDirectory$Line;"⟩, 9) := ⟨⟨by decide +kernel, by decide +kernel⟩, List.mem_of_getElem? (i := 22) (by decide +kernel), List.mem_of_getElem? (i := 623) (by decide +kernel), List.mem_of_getElem? (i := 624) (by decide +kernel)⟩
theorem lw_p8 : lw_okq (⟨"HomeDirectoryModel", "isCore", "(I)Z"⟩, 27) := ⟨⟨by decide +kernel, by decide +kernel⟩, List.mem_of_getElem? (i := 661) (by decide +kernel), List.mem_of_getElem? (i := 754) (by decide +kernel), List.mem_of_getElem? (i := 755) (by decide +kernel)⟩
theorem lw_p9 : lw_okq (⟨"HomeDirectoryModel", "plain", "(III)I"⟩, 27) := ⟨⟨by decide +kernel, by decide +kernel⟩, List.mem_of_getElem? (i := 661) (by decide +kernel), List.mem_of_getElem? (i := 772) (by decide +kernel), List.mem_of_getElem? (i := 773) (by decide +kernel)⟩
theorem lw_p10 : lw_okq (⟨"HomeDirectoryModel", "perform", "(I)V"⟩, 27) := ⟨⟨by decide +kernel, by decide +kernel⟩, List.mem_of_getElem? (i := 661) (by decide +kernel), List.mem_of_getElem? (i := 776) (by decide +kernel), List.mem_of_getElem? (i := 777) (by decide +kernel)⟩
theorem lw_p11 : lw_okq (⟨"HomeDirectoryModel", "ask", "(IIII)I"⟩, 27) := ⟨⟨by decide +kernel, by decide +kernel⟩, List.mem_of_getElem? (i := 661) (by decide +kernel), List.mem_of_getElem? (i := 780) (by decide +kernel), List.mem_of_getElem? (i := 781) (by decide +kernel)⟩
theorem lw_p12 : lw_okq (⟨"HomeDirectoryModel", "send", "(IIIIIII)V"⟩, 27) := ⟨⟨by decide +kernel, by decide +kernel⟩, List.mem_of_getElem? (i := 661) (by decide +kernel), List.mem_of_getElem? (i := 784) (by decide +kernel), List.mem_of_getElem? (i := 785) (by decide +kernel)⟩
theorem lw_p13 : lw_okq (⟨"HomeDirectoryModel", "inUse", "(I)I"⟩, 27) := ⟨⟨by decide +kernel, by decide +kernel⟩, List.mem_of_getElem? (i := 661) (by decide +kernel), List.mem_of_getElem? (i := 788) (by decide +kernel), List.mem_of_getElem? (i := 789) (by decide +kernel)⟩
theorem lw_p14 : lw_okq (⟨"HomeDirectoryModel", "replace", "(I)I"⟩, 27) := ⟨⟨by decide +kernel, by decide +kernel⟩, List.mem_of_getElem? (i := 661) (by decide +kernel), List.mem_of_getElem? (i := 792) (by decide +kernel), List.mem_of_getElem? (i := 793) (by decide +kernel)⟩
theorem lw_p15 : lw_okq (⟨"HomeDirectoryModel", "behind", "(I)Z"⟩, 27) := ⟨⟨by decide +kernel, by decide +kernel⟩, List.mem_of_getElem? (i := 661) (by decide +kernel), List.mem_of_getElem? (i := 800) (by decide +kernel), List.mem_of_getElem? (i := 801) (by decide +kernel)⟩
def lw_privs_1 : List (MethodName × Nat) := [(⟨"HomeDirectory", "core", "(I)LHomeDirectory$Core;"⟩, 9), (⟨"HomeDirectory", "access", "(LHomeDirectory$Core;LHomeDirectory$Op;II)I"⟩, 9), (⟨"HomeDirectory", "perform", "(LHomeDirectory$Core;LHomeDirectory$Op;LHomeDirectory$Line;)V"⟩, 9), (⟨"HomeDirectory$Home", "shares", "(I)Z"⟩, 6), (⟨"HomeDirectory$Home", "gives", "(I)Z"⟩, 6), (⟨"HomeDirectory$Home", "takesBack", "(ILHomeDirectory$Message;)V"⟩, 6), (⟨"HomeDirectory", "wake", "(LHomeDirectory$Line;LHomeDirectory$Kind;)V"⟩, 9), (⟨"HomeDirectory", "lineOf", "(II)LHomeDirectory$Line;"⟩, 9), (⟨"HomeDirectoryModel", "isCore", "(I)Z"⟩, 27), (⟨"HomeDirectoryModel", "plain", "(III)I"⟩, 27), (⟨"HomeDirectoryModel", "perform", "(I)V"⟩, 27), (⟨"HomeDirectoryModel", "ask", "(IIII)I"⟩, 27), (⟨"HomeDirectoryModel", "send", "(IIIIIII)V"⟩, 27), (⟨"HomeDirectoryModel", "inUse", "(I)I"⟩, 27), (⟨"HomeDirectoryModel", "replace", "(I)I"⟩, 27), (⟨"HomeDirectoryModel", "behind", "(I)Z"⟩, 27)]
theorem lw_r1 : ∀ q ∈ lw_privs_1, lw_okq q := List.forall_mem_cons.mpr ⟨lw_p0, List.forall_mem_cons.mpr ⟨lw_p1, List.forall_mem_cons.mpr ⟨lw_p2, List.forall_mem_cons.mpr ⟨lw_p3, List.forall_mem_cons.mpr ⟨lw_p4, List.forall_mem_cons.mpr ⟨lw_p5, List.forall_mem_cons.mpr ⟨lw_p6, List.forall_mem_cons.mpr ⟨lw_p7, List.forall_mem_cons.mpr ⟨lw_p8, List.forall_mem_cons.mpr ⟨lw_p9, List.forall_mem_cons.mpr ⟨lw_p10, List.forall_mem_cons.mpr ⟨lw_p11, List.forall_mem_cons.mpr ⟨lw_p12, List.forall_mem_cons.mpr ⟨lw_p13, List.forall_mem_cons.mpr ⟨lw_p14, List.forall_mem_cons.mpr ⟨lw_p15, fun _ h => absurd h List.not_mem_nil⟩⟩⟩⟩⟩⟩⟩⟩⟩⟩⟩⟩⟩⟩⟩⟩
theorem lw_p16 : lw_okq (⟨"HomeDirectoryModel", "stalls", "(I)Z"⟩, 27) := ⟨⟨by decide +kernel, by decide +kernel⟩, List.mem_of_getElem? (i := 661) (by decide +kernel), List.mem_of_getElem? (i := 804) (by decide +kernel), List.mem_of_getElem? (i := 805) (by decide +kernel)⟩
theorem lw_p17 : lw_okq (⟨"HomeDirectoryModel", "remove", "(I)V"⟩, 27) := ⟨⟨by decide +kernel, by decide +kernel⟩, List.mem_of_getElem? (i := 661) (by decide +kernel), List.mem_of_getElem? (i := 808) (by decide +kernel), List.mem_of_getElem? (i := 809) (by decide +kernel)⟩
theorem lw_p18 : lw_okq (⟨"HomeDirectoryModel", "atHome", "(IIII)V"⟩, 27) := ⟨⟨by decide +kernel, by decide +kernel⟩, List.mem_of_getElem? (i := 661) (by decide +kernel), List.mem_of_getElem? (i := 812) (by decide +kernel), List.mem_of_getElem? (i := 813) (by decide +kernel)⟩
theorem lw_p19 : lw_okq (⟨"HomeDirectoryModel", "gets", "(II)V"⟩, 27) := ⟨⟨by decide +kernel, by decide +kernel⟩, List.mem_of_getElem? (i := 661) (by decide +kernel), List.mem_of_getElem? (i := 816) (by decide +kernel), List.mem_of_getElem? (i := 817) (by decide +kernel)⟩
theorem lw_p20 : lw_okq (⟨"HomeDirectoryModel", "data", "(IIIII)V"⟩, 27) := ⟨⟨by decide +kernel, by decide +kernel⟩, List.mem_of_getElem? (i := 661) (by decide +kernel), List.mem_of_getElem? (i := 820) (by decide +kernel), List.mem_of_getElem? (i := 821) (by decide +kernel)⟩
theorem lw_p21 : lw_okq (⟨"HomeDirectoryModel", "getm", "(II)V"⟩, 27) := ⟨⟨by decide +kernel, by decide +kernel⟩, List.mem_of_getElem? (i := 661) (by decide +kernel), List.mem_of_getElem? (i := 824) (by decide +kernel), List.mem_of_getElem? (i := 825) (by decide +kernel)⟩
theorem lw_p22 : lw_okq (⟨"HomeDirectoryModel", "sharers", "(II)I"⟩, 27) := ⟨⟨by decide +kernel, by decide +kernel⟩, List.mem_of_getElem? (i := 661) (by decide +kernel), List.mem_of_getElem? (i := 828) (by decide +kernel), List.mem_of_getElem? (i := 829) (by decide +kernel)⟩
theorem lw_p23 : lw_okq (⟨"HomeDirectoryModel", "atCore", "(IIIIII)V"⟩, 27) := ⟨⟨by decide +kernel, by decide +kernel⟩, List.mem_of_getElem? (i := 661) (by decide +kernel), List.mem_of_getElem? (i := 832) (by decide +kernel), List.mem_of_getElem? (i := 833) (by decide +kernel)⟩
theorem lw_p24 : lw_okq (⟨"HomeDirectoryModel", "finish", "(II)V"⟩, 27) := ⟨⟨by decide +kernel, by decide +kernel⟩, List.mem_of_getElem? (i := 661) (by decide +kernel), List.mem_of_getElem? (i := 836) (by decide +kernel), List.mem_of_getElem? (i := 837) (by decide +kernel)⟩
def lw_privs_2 : List (MethodName × Nat) := [(⟨"HomeDirectoryModel", "stalls", "(I)Z"⟩, 27), (⟨"HomeDirectoryModel", "remove", "(I)V"⟩, 27), (⟨"HomeDirectoryModel", "atHome", "(IIII)V"⟩, 27), (⟨"HomeDirectoryModel", "gets", "(II)V"⟩, 27), (⟨"HomeDirectoryModel", "data", "(IIIII)V"⟩, 27), (⟨"HomeDirectoryModel", "getm", "(II)V"⟩, 27), (⟨"HomeDirectoryModel", "sharers", "(II)I"⟩, 27), (⟨"HomeDirectoryModel", "atCore", "(IIIIII)V"⟩, 27), (⟨"HomeDirectoryModel", "finish", "(II)V"⟩, 27)]
theorem lw_r2 : ∀ q ∈ lw_privs_2, lw_okq q := List.forall_mem_cons.mpr ⟨lw_p16, List.forall_mem_cons.mpr ⟨lw_p17, List.forall_mem_cons.mpr ⟨lw_p18, List.forall_mem_cons.mpr ⟨lw_p19, List.forall_mem_cons.mpr ⟨lw_p20, List.forall_mem_cons.mpr ⟨lw_p21, List.forall_mem_cons.mpr ⟨lw_p22, List.forall_mem_cons.mpr ⟨lw_p23, List.forall_mem_cons.mpr ⟨lw_p24, fun _ h => absurd h List.not_mem_nil⟩⟩⟩⟩⟩⟩⟩⟩⟩
def lw_privs : List (MethodName × Nat) := lw_privs_1 ++ (lw_privs_2)
def lw_tbl : List Cond := k2_sels lw_privs ++ tables_1
theorem lw_privs_ok : ∀ q ∈ lw_privs, lw_okq q := by
  show ∀ q ∈ lw_privs_1 ++ (lw_privs_2), lw_okq q
  exact List.forall_mem_append.mpr ⟨lw_r1, lw_r2⟩
def wz : List Cond := lw_tbl.filter goodWord
theorem wz_s {w : Cond} {i : Nat} (h : (k2_sels lw_privs)[i]? = some w) (g : goodWord w = true) : w ∈ wz := List.mem_filter.mpr ⟨List.mem_append_left _ (List.mem_of_getElem? h), g⟩
theorem wz_t {w : Cond} (h : w ∈ tables_1) (g : goodWord w = true) : w ∈ wz := List.mem_filter.mpr ⟨List.mem_append_right _ h, g⟩
theorem wz_1 {w : Cond} {i : Nat} (h : tables_1_1[i]? = some w) (g : goodWord w = true) : w ∈ wz := wz_t (List.mem_append_left _ (List.mem_of_getElem? h)) g
theorem wz_2 {w : Cond} {i : Nat} (h : tables_1_2[i]? = some w) (g : goodWord w = true) : w ∈ wz := wz_t (List.mem_append_right _ (List.mem_append_left _ (List.mem_of_getElem? h))) g
theorem wz_3 {w : Cond} {i : Nat} (h : tables_1_3[i]? = some w) (g : goodWord w = true) : w ∈ wz := wz_t (List.mem_append_right _ (List.mem_append_right _ (List.mem_append_left _ (List.mem_of_getElem? h)))) g
theorem wz_4 {w : Cond} {i : Nat} (h : tables_1_4[i]? = some w) (g : goodWord w = true) : w ∈ wz := wz_t (List.mem_append_right _ (List.mem_append_right _ (List.mem_append_right _ (List.mem_of_getElem? h)))) g
theorem tb_1 {w : Cond} {i : Nat} (h : tables_1_1[i]? = some w) : w ∈ lw_tbl := List.mem_append_right _ (List.mem_append_left _ (List.mem_of_getElem? h))
theorem tb_2 {w : Cond} {i : Nat} (h : tables_1_2[i]? = some w) : w ∈ lw_tbl := List.mem_append_right _ (List.mem_append_right _ (List.mem_append_left _ (List.mem_of_getElem? h)))
theorem tb_3 {w : Cond} {i : Nat} (h : tables_1_3[i]? = some w) : w ∈ lw_tbl := List.mem_append_right _ (List.mem_append_right _ (List.mem_append_right _ (List.mem_append_left _ (List.mem_of_getElem? h))))
theorem tb_4 {w : Cond} {i : Nat} (h : tables_1_4[i]? = some w) : w ∈ lw_tbl := List.mem_append_right _ (List.mem_append_right _ (List.mem_append_right _ (List.mem_append_right _ (List.mem_of_getElem? h))))
theorem gd {ws : List Cond} (h : ∀ w ∈ ws, w ∈ wz) : GoodIn wz ws := fun w hw => ⟨h w hw, good_of_word (List.mem_filter.mp (h w hw)).2⟩
def R_HD : String := "HomeDirectory"
def R_Net : String := "HomeDirectory$Network"
def R_Chart : String := "HomeDirectory$Chart"
def R_Emp : String := "HomeDirectory$Empty"
def R_Sha : String := "HomeDirectory$Shared"
def R_Own : String := "HomeDirectory$Owned"
def R_Fet : String := "HomeDirectory$Fetching"
def R_Gai : String := "HomeDirectory$Gaining"
def R_Core : String := "HomeDirectory$Core"
def R_Line : String := "HomeDirectory$Line"
def R_Home : String := "HomeDirectory$Home"
def R_Msg : String := "HomeDirectory$Message"
def R_Tw : String := "HomeDirectoryModel"
def R_Kind : String := "HomeDirectory$Kind"
def R_Op : String := "HomeDirectory$Op"
def R_Std : String := "HomeDirectory$Standing"
def R_Mode : String := "HomeDirectory$Mode"
def R_Rcv : String := "HomeDirectory$Receiver"
def R_law : String := "HomeDirectoryLaw"
def R_Int : String := "java/lang/Integer"
def R_Math : String := "java/lang/Math"
def R_Enum : String := "java/lang/Enum"
def R_Obj : String := "java/lang/Object"
def F_HD : u_T := fun k => match k with
  | 0 => ("HomeDirectory", "many", "I", true)
  | 1 => ("HomeDirectory", "room", "I", true)
  | 2 => ("HomeDirectory", "ops", "[LHomeDirectory$Op;", true)
  | 3 => ("HomeDirectory", "net", "LHomeDirectory$Network;", true)
  | 4 => ("HomeDirectory", "chart", "LHomeDirectory$Chart;", true)
  | 5 => ("HomeDirectory", "cores", "[LHomeDirectory$Core;", true)
  | 6 => ("HomeDirectory", "lines", "[LHomeDirectory$Line;", true)
  | 7 => ("HomeDirectory", "homes", "[LHomeDirectory$Home;", true)
  | _ => ("HomeDirectory", "performed", "I", false)
def t_HD : Nat → FieldType := fun k => match k with
  | 0 => .int
  | 1 => .int
  | 2 => .array (.object "HomeDirectory$Op")
  | 3 => .object "HomeDirectory$Network"
  | 4 => .object "HomeDirectory$Chart"
  | 5 => .array (.object "HomeDirectory$Core")
  | 6 => .array (.object "HomeDirectory$Line")
  | 7 => .array (.object "HomeDirectory$Home")
  | _ => .int
theorem n_HD : ∀ a, a < 9 → ∀ b, b < 9 → a ≠ b → (F_HD a).2.1 ≠ (F_HD b).2.1 := by decide +kernel
theorem t_HD_ok : ∀ k, k < 9 → parseFieldDescriptor (F_HD k).2.2.1 = some (t_HD k) := by decide +kernel
theorem i_HD : ∀ w ∈ u_ws R_HD F_HD 9, w ∈ wz := by
  intro w hw
  obtain ⟨k, hk, rfl⟩ := List.mem_map.mp hw
  have hk := List.mem_range.mp hk
  match k, hk with
  | 0, _ => exact wz_2 (i := 79) rfl rfl
  | 1, _ => exact wz_2 (i := 81) rfl rfl
  | 2, _ => exact wz_2 (i := 83) rfl rfl
  | 3, _ => exact wz_2 (i := 85) rfl rfl
  | 4, _ => exact wz_2 (i := 87) rfl rfl
  | 5, _ => exact wz_2 (i := 89) rfl rfl
  | 6, _ => exact wz_2 (i := 91) rfl rfl
  | 7, _ => exact wz_2 (i := 93) rfl rfl
  | 8, _ => exact wz_2 (i := 95) rfl rfl
def F_Net : u_T := fun k => match k with
  | 0 => ("HomeDirectory$Network", "first", "LHomeDirectory$Message;", false)
  | 1 => ("HomeDirectory$Network", "last", "LHomeDirectory$Message;", false)
  | 2 => ("HomeDirectory$Network", "spare", "LHomeDirectory$Message;", false)
  | 3 => ("HomeDirectory$Network", "size", "I", false)
  | _ => ("HomeDirectory$Network", "sent", "I", false)
def t_Net : Nat → FieldType := fun k => match k with
  | 0 => .object "HomeDirectory$Message"
  | 1 => .object "HomeDirectory$Message"
  | 2 => .object "HomeDirectory$Message"
  | 3 => .int
  | _ => .int
theorem n_Net : ∀ a, a < 5 → ∀ b, b < 5 → a ≠ b → (F_Net a).2.1 ≠ (F_Net b).2.1 := by decide +kernel
theorem t_Net_ok : ∀ k, k < 5 → parseFieldDescriptor (F_Net k).2.2.1 = some (t_Net k) := by decide +kernel
theorem i_Net : ∀ w ∈ u_ws R_Net F_Net 5, w ∈ wz := by
  intro w hw
  obtain ⟨k, hk, rfl⟩ := List.mem_map.mp hw
  have hk := List.mem_range.mp hk
  match k, hk with
  | 0, _ => exact wz_1 (i := 55) rfl rfl
  | 1, _ => exact wz_1 (i := 57) rfl rfl
  | 2, _ => exact wz_1 (i := 59) rfl rfl
  | 3, _ => exact wz_1 (i := 61) rfl rfl
  | 4, _ => exact wz_1 (i := 63) rfl rfl
def F_Chart : u_T := fun k => match k with
  | 0 => ("HomeDirectory$Chart", "idle", "LHomeDirectory$Mode;", true)
  | 1 => ("HomeDirectory$Chart", "shared", "LHomeDirectory$Mode;", true)
  | 2 => ("HomeDirectory$Chart", "owned", "LHomeDirectory$Mode;", true)
  | 3 => ("HomeDirectory$Chart", "fetching", "LHomeDirectory$Mode;", true)
  | 4 => ("HomeDirectory$Chart", "gaining", "LHomeDirectory$Mode;", true)
  | 5 => ("HomeDirectory$Chart", "counting", "LHomeDirectory$Mode;", true)
  | 6 => ("HomeDirectory$Chart", "sharedGaining", "LHomeDirectory$Mode;", true)
  | 7 => ("HomeDirectory$Chart", "sharedCounting", "LHomeDirectory$Mode;", true)
  | 8 => ("HomeDirectory$Chart", "ownedLeaving", "LHomeDirectory$Mode;", true)
  | 9 => ("HomeDirectory$Chart", "sharedLeaving", "LHomeDirectory$Mode;", true)
  | _ => ("HomeDirectory$Chart", "gone", "LHomeDirectory$Mode;", true)
def t_Chart : Nat → FieldType := fun k => match k with
  | 0 => .object "HomeDirectory$Mode"
  | 1 => .object "HomeDirectory$Mode"
  | 2 => .object "HomeDirectory$Mode"
  | 3 => .object "HomeDirectory$Mode"
  | 4 => .object "HomeDirectory$Mode"
  | 5 => .object "HomeDirectory$Mode"
  | 6 => .object "HomeDirectory$Mode"
  | 7 => .object "HomeDirectory$Mode"
  | 8 => .object "HomeDirectory$Mode"
  | 9 => .object "HomeDirectory$Mode"
  | _ => .object "HomeDirectory$Mode"
theorem n_Chart : ∀ a, a < 11 → ∀ b, b < 11 → a ≠ b → (F_Chart a).2.1 ≠ (F_Chart b).2.1 := by decide +kernel
theorem t_Chart_ok : ∀ k, k < 11 → parseFieldDescriptor (F_Chart k).2.2.1 = some (t_Chart k) := by decide +kernel
theorem i_Chart : ∀ w ∈ u_ws R_Chart F_Chart 11, w ∈ wz := by
  intro w hw
  obtain ⟨k, hk, rfl⟩ := List.mem_map.mp hw
  have hk := List.mem_range.mp hk
  match k, hk with
  | 0, _ => exact wz_1 (i := 165) rfl rfl
  | 1, _ => exact wz_1 (i := 167) rfl rfl
  | 2, _ => exact wz_1 (i := 169) rfl rfl
  | 3, _ => exact wz_1 (i := 171) rfl rfl
  | 4, _ => exact wz_1 (i := 173) rfl rfl
  | 5, _ => exact wz_1 (i := 175) rfl rfl
  | 6, _ => exact wz_1 (i := 177) rfl rfl
  | 7, _ => exact wz_1 (i := 179) rfl rfl
  | 8, _ => exact wz_1 (i := 181) rfl rfl
  | 9, _ => exact wz_1 (i := 183) rfl rfl
  | 10, _ => exact wz_1 (i := 185) rfl rfl
def F_Emp : u_T := fun k => match k with
  | 0 => ("HomeDirectory$Mode", "code", "I", true)
  | _ => ("HomeDirectory$Mode", "holds", "Z", true)
def t_Emp : Nat → FieldType := fun k => match k with
  | 0 => .int
  | _ => .boolean
theorem n_Emp : ∀ a, a < 2 → ∀ b, b < 2 → a ≠ b → (F_Emp a).2.1 ≠ (F_Emp b).2.1 := by decide +kernel
theorem t_Emp_ok : ∀ k, k < 2 → parseFieldDescriptor (F_Emp k).2.2.1 = some (t_Emp k) := by decide +kernel
theorem i_Emp : ∀ w ∈ u_ws R_Emp F_Emp 2, w ∈ wz := by
  intro w hw
  obtain ⟨k, hk, rfl⟩ := List.mem_map.mp hw
  have hk := List.mem_range.mp hk
  match k, hk with
  | 0, _ => exact wz_1 (i := 87) rfl rfl
  | 1, _ => exact wz_1 (i := 89) rfl rfl
def F_Sha : u_T := fun k => match k with
  | 0 => ("HomeDirectory$Mode", "code", "I", true)
  | _ => ("HomeDirectory$Mode", "holds", "Z", true)
def t_Sha : Nat → FieldType := fun k => match k with
  | 0 => .int
  | _ => .boolean
theorem n_Sha : ∀ a, a < 2 → ∀ b, b < 2 → a ≠ b → (F_Sha a).2.1 ≠ (F_Sha b).2.1 := by decide +kernel
theorem t_Sha_ok : ∀ k, k < 2 → parseFieldDescriptor (F_Sha k).2.2.1 = some (t_Sha k) := by decide +kernel
theorem i_Sha : ∀ w ∈ u_ws R_Sha F_Sha 2, w ∈ wz := by
  intro w hw
  obtain ⟨k, hk, rfl⟩ := List.mem_map.mp hw
  have hk := List.mem_range.mp hk
  match k, hk with
  | 0, _ => exact wz_1 (i := 98) rfl rfl
  | 1, _ => exact wz_1 (i := 99) rfl rfl
def F_Own : u_T := fun k => match k with
  | 0 => ("HomeDirectory$Mode", "code", "I", true)
  | _ => ("HomeDirectory$Mode", "holds", "Z", true)
def t_Own : Nat → FieldType := fun k => match k with
  | 0 => .int
  | _ => .boolean
theorem n_Own : ∀ a, a < 2 → ∀ b, b < 2 → a ≠ b → (F_Own a).2.1 ≠ (F_Own b).2.1 := by decide +kernel
theorem t_Own_ok : ∀ k, k < 2 → parseFieldDescriptor (F_Own k).2.2.1 = some (t_Own k) := by decide +kernel
theorem i_Own : ∀ w ∈ u_ws R_Own F_Own 2, w ∈ wz := by
  intro w hw
  obtain ⟨k, hk, rfl⟩ := List.mem_map.mp hw
  have hk := List.mem_range.mp hk
  match k, hk with
  | 0, _ => exact wz_1 (i := 107) rfl rfl
  | 1, _ => exact wz_1 (i := 108) rfl rfl
def F_Fet : u_T := fun k => match k with
  | 0 => ("HomeDirectory$Mode", "code", "I", true)
  | _ => ("HomeDirectory$Mode", "holds", "Z", true)
def t_Fet : Nat → FieldType := fun k => match k with
  | 0 => .int
  | _ => .boolean
theorem n_Fet : ∀ a, a < 2 → ∀ b, b < 2 → a ≠ b → (F_Fet a).2.1 ≠ (F_Fet b).2.1 := by decide +kernel
theorem t_Fet_ok : ∀ k, k < 2 → parseFieldDescriptor (F_Fet k).2.2.1 = some (t_Fet k) := by decide +kernel
theorem i_Fet : ∀ w ∈ u_ws R_Fet F_Fet 2, w ∈ wz := by
  intro w hw
  obtain ⟨k, hk, rfl⟩ := List.mem_map.mp hw
  have hk := List.mem_range.mp hk
  match k, hk with
  | 0, _ => exact wz_1 (i := 116) rfl rfl
  | 1, _ => exact wz_1 (i := 117) rfl rfl
def F_Gai : u_T := fun k => match k with
  | 0 => ("HomeDirectory$Mode", "code", "I", true)
  | 1 => ("HomeDirectory$Mode", "holds", "Z", true)
  | _ => ("HomeDirectory$Gaining", "counted", "Z", true)
def t_Gai : Nat → FieldType := fun k => match k with
  | 0 => .int
  | 1 => .boolean
  | _ => .boolean
theorem n_Gai : ∀ a, a < 3 → ∀ b, b < 3 → a ≠ b → (F_Gai a).2.1 ≠ (F_Gai b).2.1 := by decide +kernel
theorem t_Gai_ok : ∀ k, k < 3 → parseFieldDescriptor (F_Gai k).2.2.1 = some (t_Gai k) := by decide +kernel
theorem i_Gai : ∀ w ∈ u_ws R_Gai F_Gai 3, w ∈ wz := by
  intro w hw
  obtain ⟨k, hk, rfl⟩ := List.mem_map.mp hw
  have hk := List.mem_range.mp hk
  match k, hk with
  | 0, _ => exact wz_1 (i := 128) rfl rfl
  | 1, _ => exact wz_1 (i := 129) rfl rfl
  | 2, _ => exact wz_1 (i := 126) rfl rfl
def F_Core : u_T := fun k => match k with
  | 0 => ("HomeDirectory$Core", "ops", "[B", true)
  | 1 => ("HomeDirectory$Core", "args", "[I", true)
  | 2 => ("HomeDirectory$Core", "size", "I", false)
  | 3 => ("HomeDirectory$Core", "place", "I", false)
  | 4 => ("HomeDirectory$Core", "a", "I", false)
  | _ => ("HomeDirectory$Core", "waits", "I", false)
def t_Core : Nat → FieldType := fun k => match k with
  | 0 => .array .byte
  | 1 => .array .int
  | 2 => .int
  | 3 => .int
  | 4 => .int
  | _ => .int
theorem n_Core : ∀ a, a < 6 → ∀ b, b < 6 → a ≠ b → (F_Core a).2.1 ≠ (F_Core b).2.1 := by decide +kernel
theorem t_Core_ok : ∀ k, k < 6 → parseFieldDescriptor (F_Core k).2.2.1 = some (t_Core k) := by decide +kernel
theorem i_Core : ∀ w ∈ u_ws R_Core F_Core 6, w ∈ wz := by
  intro w hw
  obtain ⟨k, hk, rfl⟩ := List.mem_map.mp hw
  have hk := List.mem_range.mp hk
  match k, hk with
  | 0, _ => exact wz_2 (i := 5) rfl rfl
  | 1, _ => exact wz_2 (i := 7) rfl rfl
  | 2, _ => exact wz_2 (i := 9) rfl rfl
  | 3, _ => exact wz_2 (i := 11) rfl rfl
  | 4, _ => exact wz_2 (i := 13) rfl rfl
  | 5, _ => exact wz_2 (i := 15) rfl rfl
def F_Line : u_T := fun k => match k with
  | 0 => ("HomeDirectory$Line", "core", "I", true)
  | 1 => ("HomeDirectory$Line", "block", "I", true)
  | 2 => ("HomeDirectory$Line", "net", "LHomeDirectory$Network;", true)
  | 3 => ("HomeDirectory$Line", "chart", "LHomeDirectory$Chart;", true)
  | 4 => ("HomeDirectory$Line", "mode", "LHomeDirectory$Mode;", false)
  | 5 => ("HomeDirectory$Line", "word", "I", false)
  | 6 => ("HomeDirectory$Line", "count", "I", false)
  | _ => ("HomeDirectory$Line", "used", "I", false)
def t_Line : Nat → FieldType := fun k => match k with
  | 0 => .int
  | 1 => .int
  | 2 => .object "HomeDirectory$Network"
  | 3 => .object "HomeDirectory$Chart"
  | 4 => .object "HomeDirectory$Mode"
  | 5 => .int
  | 6 => .int
  | _ => .int
theorem n_Line : ∀ a, a < 8 → ∀ b, b < 8 → a ≠ b → (F_Line a).2.1 ≠ (F_Line b).2.1 := by decide +kernel
theorem t_Line_ok : ∀ k, k < 8 → parseFieldDescriptor (F_Line k).2.2.1 = some (t_Line k) := by decide +kernel
theorem i_Line : ∀ w ∈ u_ws R_Line F_Line 8, w ∈ wz := by
  intro w hw
  obtain ⟨k, hk, rfl⟩ := List.mem_map.mp hw
  have hk := List.mem_range.mp hk
  match k, hk with
  | 0, _ => exact wz_2 (i := 53) rfl rfl
  | 1, _ => exact wz_2 (i := 55) rfl rfl
  | 2, _ => exact wz_2 (i := 57) rfl rfl
  | 3, _ => exact wz_2 (i := 59) rfl rfl
  | 4, _ => exact wz_2 (i := 61) rfl rfl
  | 5, _ => exact wz_2 (i := 63) rfl rfl
  | 6, _ => exact wz_2 (i := 65) rfl rfl
  | 7, _ => exact wz_2 (i := 67) rfl rfl
def F_Home : u_T := fun k => match k with
  | 0 => ("HomeDirectory$Home", "block", "I", true)
  | 1 => ("HomeDirectory$Home", "net", "LHomeDirectory$Network;", true)
  | 2 => ("HomeDirectory$Home", "state", "LHomeDirectory$Standing;", false)
  | 3 => ("HomeDirectory$Home", "owner", "I", false)
  | 4 => ("HomeDirectory$Home", "sharers", "I", false)
  | _ => ("HomeDirectory$Home", "memory", "I", false)
def t_Home : Nat → FieldType := fun k => match k with
  | 0 => .int
  | 1 => .object "HomeDirectory$Network"
  | 2 => .object "HomeDirectory$Standing"
  | 3 => .int
  | 4 => .int
  | _ => .int
theorem n_Home : ∀ a, a < 6 → ∀ b, b < 6 → a ≠ b → (F_Home a).2.1 ≠ (F_Home b).2.1 := by decide +kernel
theorem t_Home_ok : ∀ k, k < 6 → parseFieldDescriptor (F_Home k).2.2.1 = some (t_Home k) := by decide +kernel
theorem i_Home : ∀ w ∈ u_ws R_Home F_Home 6, w ∈ wz := by
  intro w hw
  obtain ⟨k, hk, rfl⟩ := List.mem_map.mp hw
  have hk := List.mem_range.mp hk
  match k, hk with
  | 0, _ => exact wz_1 (i := 217) rfl rfl
  | 1, _ => exact wz_1 (i := 219) rfl rfl
  | 2, _ => exact wz_1 (i := 221) rfl rfl
  | 3, _ => exact wz_1 (i := 223) rfl rfl
  | 4, _ => exact wz_1 (i := 225) rfl rfl
  | 5, _ => exact wz_1 (i := 227) rfl rfl
def F_Msg : u_T := fun k => match k with
  | 0 => ("HomeDirectory$Message", "kind", "LHomeDirectory$Kind;", false)
  | 1 => ("HomeDirectory$Message", "from", "I", false)
  | 2 => ("HomeDirectory$Message", "to", "I", false)
  | 3 => ("HomeDirectory$Message", "block", "I", false)
  | 4 => ("HomeDirectory$Message", "word", "I", false)
  | 5 => ("HomeDirectory$Message", "number", "I", false)
  | 6 => ("HomeDirectory$Message", "requester", "I", false)
  | _ => ("HomeDirectory$Message", "next", "LHomeDirectory$Message;", false)
def t_Msg : Nat → FieldType := fun k => match k with
  | 0 => .object "HomeDirectory$Kind"
  | 1 => .int
  | 2 => .int
  | 3 => .int
  | 4 => .int
  | 5 => .int
  | 6 => .int
  | _ => .object "HomeDirectory$Message"
theorem n_Msg : ∀ a, a < 8 → ∀ b, b < 8 → a ≠ b → (F_Msg a).2.1 ≠ (F_Msg b).2.1 := by decide +kernel
theorem t_Msg_ok : ∀ k, k < 8 → parseFieldDescriptor (F_Msg k).2.2.1 = some (t_Msg k) := by decide +kernel
theorem i_Msg : ∀ w ∈ u_ws R_Msg F_Msg 8, w ∈ wz := by
  intro w hw
  obtain ⟨k, hk, rfl⟩ := List.mem_map.mp hw
  have hk := List.mem_range.mp hk
  match k, hk with
  | 0, _ => exact wz_2 (i := 201) rfl rfl
  | 1, _ => exact wz_2 (i := 203) rfl rfl
  | 2, _ => exact wz_2 (i := 205) rfl rfl
  | 3, _ => exact wz_2 (i := 207) rfl rfl
  | 4, _ => exact wz_2 (i := 209) rfl rfl
  | 5, _ => exact wz_2 (i := 211) rfl rfl
  | 6, _ => exact wz_2 (i := 213) rfl rfl
  | 7, _ => exact wz_2 (i := 215) rfl rfl
def F_Tw : u_T := fun k => match k with
  | 0 => ("HomeDirectoryModel", "cores", "I", true)
  | 1 => ("HomeDirectoryModel", "most", "I", true)
  | 2 => ("HomeDirectoryModel", "a", "[I", true)
  | 3 => ("HomeDirectoryModel", "ops", "[I", true)
  | 4 => ("HomeDirectoryModel", "xs", "[I", true)
  | 5 => ("HomeDirectoryModel", "size", "[I", true)
  | 6 => ("HomeDirectoryModel", "next", "[I", true)
  | 7 => ("HomeDirectoryModel", "waits", "[I", true)
  | 8 => ("HomeDirectoryModel", "state", "[I", true)
  | 9 => ("HomeDirectoryModel", "held", "[I", true)
  | 10 => ("HomeDirectoryModel", "missing", "[I", true)
  | 11 => ("HomeDirectoryModel", "used", "[I", true)
  | 12 => ("HomeDirectoryModel", "clock", "I", false)
  | 13 => ("HomeDirectoryModel", "stored", "[I", true)
  | 14 => ("HomeDirectoryModel", "kept", "[I", true)
  | 15 => ("HomeDirectoryModel", "owner", "[I", true)
  | 16 => ("HomeDirectoryModel", "shares", "[Z", true)
  | 17 => ("HomeDirectoryModel", "many", "I", false)
  | 18 => ("HomeDirectoryModel", "total", "I", false)
  | 19 => ("HomeDirectoryModel", "done", "I", false)
  | 20 => ("HomeDirectoryModel", "kind", "[I", true)
  | 21 => ("HomeDirectoryModel", "from", "[I", true)
  | 22 => ("HomeDirectoryModel", "to", "[I", true)
  | 23 => ("HomeDirectoryModel", "block", "[I", true)
  | 24 => ("HomeDirectoryModel", "value", "[I", true)
  | 25 => ("HomeDirectoryModel", "number", "[I", true)
  | _ => ("HomeDirectoryModel", "asker", "[I", true)
def t_Tw : Nat → FieldType := fun k => match k with
  | 0 => .int
  | 1 => .int
  | 2 => .array .int
  | 3 => .array .int
  | 4 => .array .int
  | 5 => .array .int
  | 6 => .array .int
  | 7 => .array .int
  | 8 => .array .int
  | 9 => .array .int
  | 10 => .array .int
  | 11 => .array .int
  | 12 => .int
  | 13 => .array .int
  | 14 => .array .int
  | 15 => .array .int
  | 16 => .array .boolean
  | 17 => .int
  | 18 => .int
  | 19 => .int
  | 20 => .array .int
  | 21 => .array .int
  | 22 => .array .int
  | 23 => .array .int
  | 24 => .array .int
  | 25 => .array .int
  | _ => .array .int
theorem n_Tw : ∀ a, a < 27 → ∀ b, b < 27 → a ≠ b → (F_Tw a).2.1 ≠ (F_Tw b).2.1 := by decide +kernel
theorem t_Tw_ok : ∀ k, k < 27 → parseFieldDescriptor (F_Tw k).2.2.1 = some (t_Tw k) := by decide +kernel
theorem i_Tw : ∀ w ∈ u_ws R_Tw F_Tw 27, w ∈ wz := by
  intro w hw
  obtain ⟨k, hk, rfl⟩ := List.mem_map.mp hw
  have hk := List.mem_range.mp hk
  match k, hk with
  | 0, _ => exact wz_3 (i := 213) rfl rfl
  | 1, _ => exact wz_3 (i := 215) rfl rfl
  | 2, _ => exact wz_3 (i := 217) rfl rfl
  | 3, _ => exact wz_3 (i := 219) rfl rfl
  | 4, _ => exact wz_3 (i := 221) rfl rfl
  | 5, _ => exact wz_3 (i := 223) rfl rfl
  | 6, _ => exact wz_3 (i := 225) rfl rfl
  | 7, _ => exact wz_3 (i := 227) rfl rfl
  | 8, _ => exact wz_3 (i := 229) rfl rfl
  | 9, _ => exact wz_3 (i := 231) rfl rfl
  | 10, _ => exact wz_3 (i := 233) rfl rfl
  | 11, _ => exact wz_3 (i := 235) rfl rfl
  | 12, _ => exact wz_3 (i := 237) rfl rfl
  | 13, _ => exact wz_3 (i := 239) rfl rfl
  | 14, _ => exact wz_4 (i := 1) rfl rfl
  | 15, _ => exact wz_4 (i := 3) rfl rfl
  | 16, _ => exact wz_4 (i := 5) rfl rfl
  | 17, _ => exact wz_4 (i := 7) rfl rfl
  | 18, _ => exact wz_4 (i := 9) rfl rfl
  | 19, _ => exact wz_4 (i := 11) rfl rfl
  | 20, _ => exact wz_4 (i := 13) rfl rfl
  | 21, _ => exact wz_4 (i := 15) rfl rfl
  | 22, _ => exact wz_4 (i := 17) rfl rfl
  | 23, _ => exact wz_4 (i := 19) rfl rfl
  | 24, _ => exact wz_4 (i := 21) rfl rfl
  | 25, _ => exact wz_4 (i := 23) rfl rfl
  | 26, _ => exact wz_4 (i := 25) rfl rfl
  | k + 27, h => exact absurd h (by omega)
abbrev cls : List vw_C := [(R_HD, F_HD, 9), (R_Net, F_Net, 5), (R_Chart, F_Chart, 11), (R_Emp, F_Emp, 2), (R_Sha, F_Sha, 2), (R_Own, F_Own, 2), (R_Fet, F_Fet, 2), (R_Gai, F_Gai, 3), (R_Core, F_Core, 6), (R_Line, F_Line, 8), (R_Home, F_Home, 6), (R_Msg, F_Msg, 8), (R_Tw, F_Tw, 27)]
abbrev b_HD_init : ByteArray := prog_1_method_1_code
def y_HD_init : MethodName := ⟨"HomeDirectory", "<init>", "(II)V"⟩
abbrev k_HD_init : Cond := .code y_HD_init b_HD_init 5 none
theorem zk_HD_init : k_HD_init ∈ wz := wz_1 (i := 25) rfl rfl
abbrev b_Obj_init : ByteArray := object_method_1_code
def y_Obj_init : MethodName := ⟨"java/lang/Object", "<init>", "()V"⟩
abbrev k_Obj_init : Cond := .code y_Obj_init b_Obj_init 1 none
theorem zk_Obj_init : k_Obj_init ∈ wz := wz_1 (i := 28) rfl rfl
abbrev b_Op_values : ByteArray := prog_13_method_1_code
def y_Op_values : MethodName := ⟨"HomeDirectory$Op", "values", "()[LHomeDirectory$Op;"⟩
abbrev k_Op_values : Cond := .code y_Op_values b_Op_values 0 (some (FieldType.array (FieldType.object "HomeDirectory$Op")))
theorem zk_Op_values : k_Op_values ∈ wz := wz_1 (i := 31) rfl rfl
abbrev b_Net_init : ByteArray := prog_12_method_1_code
def y_Net_init : MethodName := ⟨"HomeDirectory$Network", "<init>", "()V"⟩
abbrev k_Net_init : Cond := .code y_Net_init b_Net_init 1 none
theorem zk_Net_init : k_Net_init ∈ wz := wz_1 (i := 46) rfl rfl
abbrev b_Chart_init : ByteArray := prog_2_method_1_code
def y_Chart_init : MethodName := ⟨"HomeDirectory$Chart", "<init>", "()V"⟩
abbrev k_Chart_init : Cond := .code y_Chart_init b_Chart_init 1 none
theorem zk_Chart_init : k_Chart_init ∈ wz := wz_1 (i := 70) rfl rfl
abbrev b_Emp_init : ByteArray := prog_4_method_1_code
def y_Emp_init : MethodName := ⟨"HomeDirectory$Empty", "<init>", "(I)V"⟩
abbrev k_Emp_init : Cond := .code y_Emp_init b_Emp_init 2 none
theorem zk_Emp_init : k_Emp_init ∈ wz := wz_1 (i := 76) rfl rfl
abbrev b_Mode_init : ByteArray := prog_11_method_1_code
def y_Mode_init : MethodName := ⟨"HomeDirectory$Mode", "<init>", "(IZ)V"⟩
abbrev k_Mode_init : Cond := .code y_Mode_init b_Mode_init 3 none
theorem zk_Mode_init : k_Mode_init ∈ wz := wz_1 (i := 79) rfl rfl
abbrev b_Sha_init : ByteArray := prog_16_method_1_code
def y_Sha_init : MethodName := ⟨"HomeDirectory$Shared", "<init>", "(I)V"⟩
abbrev k_Sha_init : Cond := .code y_Sha_init b_Sha_init 2 none
theorem zk_Sha_init : k_Sha_init ∈ wz := wz_1 (i := 96) rfl rfl
abbrev b_Own_init : ByteArray := prog_14_method_1_code
def y_Own_init : MethodName := ⟨"HomeDirectory$Owned", "<init>", "(I)V"⟩
abbrev k_Own_init : Cond := .code y_Own_init b_Own_init 2 none
theorem zk_Own_init : k_Own_init ∈ wz := wz_1 (i := 105) rfl rfl
abbrev b_Fet_init : ByteArray := prog_5_method_1_code
def y_Fet_init : MethodName := ⟨"HomeDirectory$Fetching", "<init>", "()V"⟩
abbrev k_Fet_init : Cond := .code y_Fet_init b_Fet_init 1 none
theorem zk_Fet_init : k_Fet_init ∈ wz := wz_1 (i := 114) rfl rfl
abbrev b_Gai_init : ByteArray := prog_6_method_1_code
def y_Gai_init : MethodName := ⟨"HomeDirectory$Gaining", "<init>", "(IZZ)V"⟩
abbrev k_Gai_init : Cond := .code y_Gai_init b_Gai_init 4 none
theorem zk_Gai_init : k_Gai_init ∈ wz := wz_1 (i := 123) rfl rfl
abbrev b_Math_min : ByteArray := prog_23_method_69_code
def y_Math_min : MethodName := ⟨"java/lang/Math", "min", "(II)I"⟩
abbrev k_Math_min : Cond := .code y_Math_min b_Math_min 2 (some FieldType.int)
theorem zk_Math_min : k_Math_min ∈ wz := wz_1 (i := 196) rfl rfl
abbrev b_Math_max : ByteArray := prog_23_method_65_code
def y_Math_max : MethodName := ⟨"java/lang/Math", "max", "(II)I"⟩
abbrev k_Math_max : Cond := .code y_Math_max b_Math_max 2 (some FieldType.int)
theorem zk_Math_max : k_Math_max ∈ wz := wz_1 (i := 199) rfl rfl
abbrev b_Home_init : ByteArray := prog_7_method_1_code
def y_Home_init : MethodName := ⟨"HomeDirectory$Home", "<init>", "(ILHomeDirectory$Network;)V"⟩
abbrev k_Home_init : Cond := .code y_Home_init b_Home_init 3 none
theorem zk_Home_init : k_Home_init ∈ wz := wz_1 (i := 203) rfl rfl
abbrev b_Core_init : ByteArray := prog_3_method_1_code
def y_Core_init : MethodName := ⟨"HomeDirectory$Core", "<init>", "()V"⟩
abbrev k_Core_init : Cond := .code y_Core_init b_Core_init 1 none
theorem zk_Core_init : k_Core_init ∈ wz := wz_1 (i := 233) rfl rfl
abbrev b_Line_init : ByteArray := prog_9_method_1_code
def y_Line_init : MethodName := ⟨"HomeDirectory$Line", "<init>", "(IILHomeDirectory$Network;LHomeDirectory$Chart;)V"⟩
abbrev k_Line_init : Cond := .code y_Line_init b_Line_init 5 none
theorem zk_Line_init : k_Line_init ∈ wz := wz_2 (i := 23) rfl rfl
abbrev b_HD_code : ByteArray := prog_1_method_4_code
def y_HD_code : MethodName := ⟨"HomeDirectory", "code", "(III)Z"⟩
abbrev k_HD_code : Cond := .code y_HD_code b_HD_code 6 (some FieldType.boolean)
theorem zk_HD_code : k_HD_code ∈ wz := wz_2 (i := 101) rfl rfl
abbrev b_HD_core : ByteArray := prog_1_method_2_code
def y_HD_core : MethodName := ⟨"HomeDirectory", "core", "(I)LHomeDirectory$Core;"⟩
abbrev k_HD_core : Cond := .code y_HD_core b_HD_core 2 (some (FieldType.object "HomeDirectory$Core"))
theorem zk_HD_core : k_HD_core ∈ wz := wz_2 (i := 105) rfl rfl
abbrev b_Op_accesses : ByteArray := prog_13_method_4_code
def y_Op_accesses : MethodName := ⟨"HomeDirectory$Op", "accesses", "()Z"⟩
abbrev k_Op_accesses : Cond := .code y_Op_accesses b_Op_accesses 1 (some FieldType.boolean)
theorem zk_Op_accesses : k_Op_accesses ∈ wz := wz_2 (i := 109) rfl rfl
abbrev b_HD_isBlock : ByteArray := prog_1_method_3_code
def y_HD_isBlock : MethodName := ⟨"HomeDirectory", "isBlock", "(I)Z"⟩
abbrev k_HD_isBlock : Cond := .code y_HD_isBlock b_HD_isBlock 1 (some FieldType.boolean)
theorem zk_HD_isBlock : k_HD_isBlock ∈ wz := wz_2 (i := 118) rfl rfl
abbrev b_HD_go : ByteArray := prog_1_method_5_code
def y_HD_go : MethodName := ⟨"HomeDirectory", "go", "(II)Z"⟩
abbrev k_HD_go : Cond := .code y_HD_go b_HD_go 4 (some FieldType.boolean)
theorem zk_HD_go : k_HD_go ∈ wz := wz_2 (i := 124) rfl rfl
abbrev b_HD_step : ByteArray := prog_1_method_6_code
def y_HD_step : MethodName := ⟨"HomeDirectory", "step", "(I)I"⟩
abbrev k_HD_step : Cond := .code y_HD_step b_HD_step 5 (some FieldType.int)
theorem zk_HD_step : k_HD_step ∈ wz := wz_2 (i := 128) rfl rfl
abbrev b_Core_compute : ByteArray := prog_3_method_2_code
def y_Core_compute : MethodName := ⟨"HomeDirectory$Core", "compute", "(LHomeDirectory$Op;I)V"⟩
abbrev k_Core_compute : Cond := .code y_Core_compute b_Core_compute 4 none
theorem zk_Core_compute : k_Core_compute ∈ wz := wz_2 (i := 132) rfl rfl
abbrev b_HD_access : ByteArray := prog_1_method_7_code
def y_HD_access : MethodName := ⟨"HomeDirectory", "access", "(LHomeDirectory$Core;LHomeDirectory$Op;II)I"⟩
abbrev k_HD_access : Cond := .code y_HD_access b_HD_access 10 (some FieldType.int)
theorem zk_HD_access : k_HD_access ∈ wz := wz_2 (i := 141) rfl rfl
abbrev b_HD_perform : ByteArray := prog_1_method_8_code
def y_HD_perform : MethodName := ⟨"HomeDirectory", "perform", "(LHomeDirectory$Core;LHomeDirectory$Op;LHomeDirectory$Line;)V"⟩
abbrev k_HD_perform : Cond := .code y_HD_perform b_HD_perform 4 none
theorem zk_HD_perform : k_HD_perform ∈ wz := wz_2 (i := 146) rfl rfl
abbrev b_Core_perform : ByteArray := prog_3_method_3_code
def y_Core_perform : MethodName := ⟨"HomeDirectory$Core", "perform", "(LHomeDirectory$Op;LHomeDirectory$Line;)V"⟩
abbrev k_Core_perform : Cond := .code y_Core_perform b_Core_perform 4 none
theorem zk_Core_perform : k_Core_perform ∈ wz := wz_2 (i := 150) rfl rfl
abbrev b_Line_leave : ByteArray := prog_9_method_7_code
def y_Line_leave : MethodName := ⟨"HomeDirectory$Line", "leave", "()V"⟩
abbrev k_Line_leave : Cond := .code y_Line_leave b_Line_leave 1 none
theorem zk_Line_leave : k_Line_leave ∈ wz := wz_2 (i := 156) rfl rfl
abbrev b_Net_send : ByteArray := prog_12_method_2_code
def y_Net_send : MethodName := ⟨"HomeDirectory$Network", "send", "(LHomeDirectory$Kind;III)LHomeDirectory$Message;"⟩
abbrev k_Net_send : Cond := .code y_Net_send b_Net_send 6 (some (FieldType.object "HomeDirectory$Message"))
theorem zk_Net_send : k_Net_send ∈ wz := wz_2 (i := 162) rfl rfl
abbrev b_Msg_init : ByteArray := prog_10_method_1_code
def y_Msg_init : MethodName := ⟨"HomeDirectory$Message", "<init>", "()V"⟩
abbrev k_Msg_init : Cond := .code y_Msg_init b_Msg_init 1 none
theorem zk_Msg_init : k_Msg_init ∈ wz := wz_2 (i := 167) rfl rfl
abbrev b_Net_sendWord : ByteArray := prog_12_method_3_code
def y_Net_sendWord : MethodName := ⟨"HomeDirectory$Network", "sendWord", "(LHomeDirectory$Kind;IIII)V"⟩
abbrev k_Net_sendWord : Cond := .code y_Net_sendWord b_Net_sendWord 6 none
theorem zk_Net_sendWord : k_Net_sendWord ∈ wz := wz_2 (i := 223) rfl rfl
abbrev b_Line_fetch : ByteArray := prog_9_method_5_code
def y_Line_fetch : MethodName := ⟨"HomeDirectory$Line", "fetch", "()V"⟩
abbrev k_Line_fetch : Cond := .code y_Line_fetch b_Line_fetch 1 none
theorem zk_Line_fetch : k_Line_fetch ∈ wz := wz_2 (i := 228) rfl rfl
abbrev b_Line_gain : ByteArray := prog_9_method_6_code
def y_Line_gain : MethodName := ⟨"HomeDirectory$Line", "gain", "()V"⟩
abbrev k_Line_gain : Cond := .code y_Line_gain b_Line_gain 1 none
theorem zk_Line_gain : k_Line_gain ∈ wz := wz_2 (i := 234) rfl rfl
abbrev b_HD_deliver : ByteArray := prog_1_method_9_code
def y_HD_deliver : MethodName := ⟨"HomeDirectory", "deliver", "(I)I"⟩
abbrev k_HD_deliver : Cond := .code y_HD_deliver b_HD_deliver 4 (some FieldType.int)
theorem zk_HD_deliver : k_HD_deliver ∈ wz := wz_3 (i := 0) rfl rfl
abbrev b_Net_at : ByteArray := prog_12_method_5_code
def y_Net_at : MethodName := ⟨"HomeDirectory$Network", "at", "(I)LHomeDirectory$Message;"⟩
abbrev k_Net_at : Cond := .code y_Net_at b_Net_at 4 (some (FieldType.object "HomeDirectory$Message"))
theorem zk_Net_at : k_Net_at ∈ wz := wz_3 (i := 4) rfl rfl
abbrev b_Net_behind : ByteArray := prog_12_method_6_code
def y_Net_behind : MethodName := ⟨"HomeDirectory$Network", "behind", "(LHomeDirectory$Message;)Z"⟩
abbrev k_Net_behind : Cond := .code y_Net_behind b_Net_behind 3 (some FieldType.boolean)
theorem zk_Net_behind : k_Net_behind ∈ wz := wz_3 (i := 8) rfl rfl
abbrev b_Msg_sameWay : ByteArray := prog_10_method_2_code
def y_Msg_sameWay : MethodName := ⟨"HomeDirectory$Message", "sameWay", "(LHomeDirectory$Message;)Z"⟩
abbrev k_Msg_sameWay : Cond := .code y_Msg_sameWay b_Msg_sameWay 2 (some FieldType.boolean)
theorem zk_Msg_sameWay : k_Msg_sameWay ∈ wz := wz_3 (i := 12) rfl rfl
abbrev b_Home_take : ByteArray := prog_7_method_2_code
def y_Home_take : MethodName := ⟨"HomeDirectory$Home", "take", "(LHomeDirectory$Message;)Z"⟩
abbrev k_Home_take : Cond := .code y_Home_take b_Home_take 3 (some FieldType.boolean)
theorem zk_Home_take : k_Home_take ∈ wz := wz_3 (i := 22) rfl rfl
abbrev b_Enum_ordinal : ByteArray := prog_21_method_2_code
def y_Enum_ordinal : MethodName := ⟨"java/lang/Enum", "ordinal", "()I"⟩
abbrev k_Enum_ordinal : Cond := .code y_Enum_ordinal b_Enum_ordinal 1 (some FieldType.int)
theorem zk_Enum_ordinal : k_Enum_ordinal ∈ wz := wz_3 (i := 28) rfl rfl
abbrev b_Home_shares : ByteArray := prog_7_method_3_code
def y_Home_shares : MethodName := ⟨"HomeDirectory$Home", "shares", "(I)Z"⟩
abbrev k_Home_shares : Cond := .code y_Home_shares b_Home_shares 2 (some FieldType.boolean)
theorem zk_Home_shares : k_Home_shares ∈ wz := wz_3 (i := 32) rfl rfl
abbrev b_Net_sendFor : ByteArray := prog_12_method_4_code
def y_Net_sendFor : MethodName := ⟨"HomeDirectory$Network", "sendFor", "(LHomeDirectory$Kind;III)V"⟩
abbrev k_Net_sendFor : Cond := .code y_Net_sendFor b_Net_sendFor 5 none
theorem zk_Net_sendFor : k_Net_sendFor ∈ wz := wz_3 (i := 42) rfl rfl
abbrev b_Home_gives : ByteArray := prog_7_method_4_code
def y_Home_gives : MethodName := ⟨"HomeDirectory$Home", "gives", "(I)Z"⟩
abbrev k_Home_gives : Cond := .code y_Home_gives b_Home_gives 5 (some FieldType.boolean)
theorem zk_Home_gives : k_Home_gives ∈ wz := wz_3 (i := 51) rfl rfl
abbrev b_Int_bitCount : ByteArray := prog_22_method_49_code
def y_Int_bitCount : MethodName := ⟨"java/lang/Integer", "bitCount", "(I)I"⟩
abbrev k_Int_bitCount : Cond := .code y_Int_bitCount b_Int_bitCount 1 (some FieldType.int)
theorem zk_Int_bitCount : k_Int_bitCount ∈ wz := wz_3 (i := 57) rfl rfl
abbrev b_Int_numberOfTrailingZeros : ByteArray := prog_22_method_48_code
def y_Int_numberOfTrailingZeros : MethodName := ⟨"java/lang/Integer", "numberOfTrailingZeros", "(I)I"⟩
abbrev k_Int_numberOfTrailingZeros : Cond := .code y_Int_numberOfTrailingZeros b_Int_numberOfTrailingZeros 2 (some FieldType.int)
theorem zk_Int_numberOfTrailingZeros : k_Int_numberOfTrailingZeros ∈ wz := wz_3 (i := 65) rfl rfl
abbrev b_Home_takesBack : ByteArray := prog_7_method_5_code
def y_Home_takesBack : MethodName := ⟨"HomeDirectory$Home", "takesBack", "(ILHomeDirectory$Message;)V"⟩
abbrev k_Home_takesBack : Cond := .code y_Home_takesBack b_Home_takesBack 3 none
theorem zk_Home_takesBack : k_Home_takesBack ∈ wz := wz_3 (i := 70) rfl rfl
abbrev b_Line_take : ByteArray := prog_9_method_2_code
def y_Line_take : MethodName := ⟨"HomeDirectory$Line", "take", "(LHomeDirectory$Message;)Z"⟩
abbrev k_Line_take : Cond := .code y_Line_take b_Line_take 2 (some FieldType.boolean)
theorem zk_Line_take : k_Line_take ∈ wz := wz_3 (i := 79) rfl rfl
abbrev b_Emp_take : ByteArray := prog_4_method_2_code
def y_Emp_take : MethodName := ⟨"HomeDirectory$Empty", "take", "(LHomeDirectory$Line;LHomeDirectory$Message;)Z"⟩
abbrev k_Emp_take : Cond := .code y_Emp_take b_Emp_take 3 (some FieldType.boolean)
theorem zk_Emp_take : k_Emp_take ∈ wz := wz_3 (i := 85) rfl rfl
abbrev b_Line_release : ByteArray := prog_9_method_4_code
def y_Line_release : MethodName := ⟨"HomeDirectory$Line", "release", "()V"⟩
abbrev k_Line_release : Cond := .code y_Line_release b_Line_release 1 none
theorem zk_Line_release : k_Line_release ∈ wz := wz_3 (i := 90) rfl rfl
abbrev b_Fet_take : ByteArray := prog_5_method_2_code
def y_Fet_take : MethodName := ⟨"HomeDirectory$Fetching", "take", "(LHomeDirectory$Line;LHomeDirectory$Message;)Z"⟩
abbrev k_Fet_take : Cond := .code y_Fet_take b_Fet_take 3 (some FieldType.boolean)
theorem zk_Fet_take : k_Fet_take ∈ wz := wz_3 (i := 93) rfl rfl
abbrev b_Gai_take : ByteArray := prog_6_method_2_code
def y_Gai_take : MethodName := ⟨"HomeDirectory$Gaining", "take", "(LHomeDirectory$Line;LHomeDirectory$Message;)Z"⟩
abbrev k_Gai_take : Cond := .code y_Gai_take b_Gai_take 3 (some FieldType.boolean)
theorem zk_Gai_take : k_Gai_take ∈ wz := wz_3 (i := 97) rfl rfl
abbrev b_Line_answer : ByteArray := prog_9_method_3_code
def y_Line_answer : MethodName := ⟨"HomeDirectory$Line", "answer", "(LHomeDirectory$Message;)V"⟩
abbrev k_Line_answer : Cond := .code y_Line_answer b_Line_answer 2 none
theorem zk_Line_answer : k_Line_answer ∈ wz := wz_3 (i := 102) rfl rfl
abbrev b_Own_take : ByteArray := prog_14_method_2_code
def y_Own_take : MethodName := ⟨"HomeDirectory$Owned", "take", "(LHomeDirectory$Line;LHomeDirectory$Message;)Z"⟩
abbrev k_Own_take : Cond := .code y_Own_take b_Own_take 4 (some FieldType.boolean)
theorem zk_Own_take : k_Own_take ∈ wz := wz_3 (i := 107) rfl rfl
abbrev b_Sha_take : ByteArray := prog_16_method_2_code
def y_Sha_take : MethodName := ⟨"HomeDirectory$Shared", "take", "(LHomeDirectory$Line;LHomeDirectory$Message;)Z"⟩
abbrev k_Sha_take : Cond := .code y_Sha_take b_Sha_take 3 (some FieldType.boolean)
theorem zk_Sha_take : k_Sha_take ∈ wz := wz_3 (i := 115) rfl rfl
abbrev b_HD_wake : ByteArray := prog_1_method_10_code
def y_HD_wake : MethodName := ⟨"HomeDirectory", "wake", "(LHomeDirectory$Line;LHomeDirectory$Kind;)V"⟩
abbrev k_HD_wake : Cond := .code y_HD_wake b_HD_wake 5 none
theorem zk_HD_wake : k_HD_wake ∈ wz := wz_3 (i := 123) rfl rfl
abbrev b_Net_remove : ByteArray := prog_12_method_7_code
def y_Net_remove : MethodName := ⟨"HomeDirectory$Network", "remove", "(LHomeDirectory$Message;)V"⟩
abbrev k_Net_remove : Cond := .code y_Net_remove b_Net_remove 4 none
theorem zk_Net_remove : k_Net_remove ∈ wz := wz_3 (i := 128) rfl rfl
abbrev b_HD_messages : ByteArray := prog_1_method_11_code
def y_HD_messages : MethodName := ⟨"HomeDirectory", "messages", "()I"⟩
abbrev k_HD_messages : Cond := .code y_HD_messages b_HD_messages 1 (some FieldType.int)
theorem zk_HD_messages : k_HD_messages ∈ wz := wz_3 (i := 132) rfl rfl
abbrev b_HD_message : ByteArray := prog_1_method_12_code
def y_HD_message : MethodName := ⟨"HomeDirectory", "message", "(II)I"⟩
abbrev k_HD_message : Cond := .code y_HD_message b_HD_message 4 (some FieldType.int)
theorem zk_HD_message : k_HD_message ∈ wz := wz_3 (i := 136) rfl rfl
abbrev b_HD_line : ByteArray := prog_1_method_14_code
def y_HD_line : MethodName := ⟨"HomeDirectory", "line", "(II)I"⟩
abbrev k_HD_line : Cond := .code y_HD_line b_HD_line 4 (some FieldType.int)
theorem zk_HD_line : k_HD_line ∈ wz := wz_3 (i := 141) rfl rfl
abbrev b_HD_lineOf : ByteArray := prog_1_method_13_code
def y_HD_lineOf : MethodName := ⟨"HomeDirectory", "lineOf", "(II)LHomeDirectory$Line;"⟩
abbrev k_HD_lineOf : Cond := .code y_HD_lineOf b_HD_lineOf 3 (some (FieldType.object "HomeDirectory$Line"))
theorem zk_HD_lineOf : k_HD_lineOf ∈ wz := wz_3 (i := 145) rfl rfl
abbrev b_HD_word : ByteArray := prog_1_method_15_code
def y_HD_word : MethodName := ⟨"HomeDirectory", "word", "(II)I"⟩
abbrev k_HD_word : Cond := .code y_HD_word b_HD_word 4 (some FieldType.int)
theorem zk_HD_word : k_HD_word ∈ wz := wz_3 (i := 149) rfl rfl
abbrev b_HD_home : ByteArray := prog_1_method_16_code
def y_HD_home : MethodName := ⟨"HomeDirectory", "home", "(I)I"⟩
abbrev k_HD_home : Cond := .code y_HD_home b_HD_home 3 (some FieldType.int)
theorem zk_HD_home : k_HD_home ∈ wz := wz_3 (i := 153) rfl rfl
abbrev b_HD_memory : ByteArray := prog_1_method_17_code
def y_HD_memory : MethodName := ⟨"HomeDirectory", "memory", "(I)I"⟩
abbrev k_HD_memory : Cond := .code y_HD_memory b_HD_memory 2 (some FieldType.int)
theorem zk_HD_memory : k_HD_memory ∈ wz := wz_3 (i := 160) rfl rfl
abbrev b_HD_accumulator : ByteArray := prog_1_method_18_code
def y_HD_accumulator : MethodName := ⟨"HomeDirectory", "accumulator", "(I)I"⟩
abbrev k_HD_accumulator : Cond := .code y_HD_accumulator b_HD_accumulator 3 (some FieldType.int)
theorem zk_HD_accumulator : k_HD_accumulator ∈ wz := wz_3 (i := 164) rfl rfl
abbrev b_HD_place : ByteArray := prog_1_method_19_code
def y_HD_place : MethodName := ⟨"HomeDirectory", "place", "(I)I"⟩
abbrev k_HD_place : Cond := .code y_HD_place b_HD_place 3 (some FieldType.int)
theorem zk_HD_place : k_HD_place ∈ wz := wz_3 (i := 168) rfl rfl
abbrev b_HD_sent : ByteArray := prog_1_method_20_code
def y_HD_sent : MethodName := ⟨"HomeDirectory", "sent", "()I"⟩
abbrev k_HD_sent : Cond := .code y_HD_sent b_HD_sent 1 (some FieldType.int)
theorem zk_HD_sent : k_HD_sent ∈ wz := wz_3 (i := 172) rfl rfl
abbrev b_HD_performed : ByteArray := prog_1_method_21_code
def y_HD_performed : MethodName := ⟨"HomeDirectory", "performed", "()I"⟩
abbrev k_HD_performed : Cond := .code y_HD_performed b_HD_performed 1 (some FieldType.int)
theorem zk_HD_performed : k_HD_performed ∈ wz := wz_3 (i := 176) rfl rfl
abbrev b_law_cell : ByteArray := method_2_code
def y_law_cell : MethodName := ⟨"HomeDirectoryLaw", "cell", "([II)I"⟩
abbrev k_law_cell : Cond := .code y_law_cell b_law_cell 2 (some FieldType.int)
theorem zk_law_cell : k_law_cell ∈ wz := wz_3 (i := 179) rfl rfl
abbrev b_Tw_init : ByteArray := prog_19_method_1_code
def y_Tw_init : MethodName := ⟨"HomeDirectoryModel", "<init>", "(II)V"⟩
abbrev k_Tw_init : Cond := .code y_Tw_init b_Tw_init 4 none
theorem zk_Tw_init : k_Tw_init ∈ wz := wz_3 (i := 184) rfl rfl
abbrev b_Tw_code : ByteArray := prog_19_method_5_code
def y_Tw_code : MethodName := ⟨"HomeDirectoryModel", "code", "(III)Z"⟩
abbrev k_Tw_code : Cond := .code y_Tw_code b_Tw_code 4 (some FieldType.boolean)
theorem zk_Tw_code : k_Tw_code ∈ wz := wz_4 (i := 32) rfl rfl
abbrev b_Tw_isCore : ByteArray := prog_19_method_2_code
def y_Tw_isCore : MethodName := ⟨"HomeDirectoryModel", "isCore", "(I)Z"⟩
abbrev k_Tw_isCore : Cond := .code y_Tw_isCore b_Tw_isCore 2 (some FieldType.boolean)
theorem zk_Tw_isCore : k_Tw_isCore ∈ wz := wz_4 (i := 36) rfl rfl
abbrev b_Tw_access : ByteArray := prog_19_method_4_code
def y_Tw_access : MethodName := ⟨"HomeDirectoryModel", "access", "(I)Z"⟩
abbrev k_Tw_access : Cond := .code y_Tw_access b_Tw_access 1 (some FieldType.boolean)
theorem zk_Tw_access : k_Tw_access ∈ wz := wz_4 (i := 39) rfl rfl
abbrev b_Tw_isBlock : ByteArray := prog_19_method_3_code
def y_Tw_isBlock : MethodName := ⟨"HomeDirectoryModel", "isBlock", "(I)Z"⟩
abbrev k_Tw_isBlock : Cond := .code y_Tw_isBlock b_Tw_isBlock 1 (some FieldType.boolean)
theorem zk_Tw_isBlock : k_Tw_isBlock ∈ wz := wz_4 (i := 42) rfl rfl
abbrev b_Tw_go : ByteArray := prog_19_method_6_code
def y_Tw_go : MethodName := ⟨"HomeDirectoryModel", "go", "(II)Z"⟩
abbrev k_Tw_go : Cond := .code y_Tw_go b_Tw_go 3 (some FieldType.boolean)
theorem zk_Tw_go : k_Tw_go ∈ wz := wz_4 (i := 46) rfl rfl
abbrev b_Tw_step : ByteArray := prog_19_method_15_code
def y_Tw_step : MethodName := ⟨"HomeDirectoryModel", "step", "(I)I"⟩
abbrev k_Tw_step : Cond := .code y_Tw_step b_Tw_step 5 (some FieldType.int)
theorem zk_Tw_step : k_Tw_step ∈ wz := wz_4 (i := 50) rfl rfl
abbrev b_Tw_plain : ByteArray := prog_19_method_11_code
def y_Tw_plain : MethodName := ⟨"HomeDirectoryModel", "plain", "(III)I"⟩
abbrev k_Tw_plain : Cond := .code y_Tw_plain b_Tw_plain 5 (some FieldType.int)
theorem zk_Tw_plain : k_Tw_plain ∈ wz := wz_4 (i := 54) rfl rfl
abbrev b_Tw_perform : ByteArray := prog_19_method_10_code
def y_Tw_perform : MethodName := ⟨"HomeDirectoryModel", "perform", "(I)V"⟩
abbrev k_Tw_perform : Cond := .code y_Tw_perform b_Tw_perform 5 none
theorem zk_Tw_perform : k_Tw_perform ∈ wz := wz_4 (i := 58) rfl rfl
abbrev b_Tw_ask : ByteArray := prog_19_method_14_code
def y_Tw_ask : MethodName := ⟨"HomeDirectoryModel", "ask", "(IIII)I"⟩
abbrev k_Tw_ask : Cond := .code y_Tw_ask b_Tw_ask 5 (some FieldType.int)
theorem zk_Tw_ask : k_Tw_ask ∈ wz := wz_4 (i := 62) rfl rfl
abbrev b_Tw_send : ByteArray := prog_19_method_7_code
def y_Tw_send : MethodName := ⟨"HomeDirectoryModel", "send", "(IIIIIII)V"⟩
abbrev k_Tw_send : Cond := .code y_Tw_send b_Tw_send 8 none
theorem zk_Tw_send : k_Tw_send ∈ wz := wz_4 (i := 66) rfl rfl
abbrev b_Tw_inUse : ByteArray := prog_19_method_12_code
def y_Tw_inUse : MethodName := ⟨"HomeDirectoryModel", "inUse", "(I)I"⟩
abbrev k_Tw_inUse : Cond := .code y_Tw_inUse b_Tw_inUse 4 (some FieldType.int)
theorem zk_Tw_inUse : k_Tw_inUse ∈ wz := wz_4 (i := 70) rfl rfl
abbrev b_Tw_replace : ByteArray := prog_19_method_13_code
def y_Tw_replace : MethodName := ⟨"HomeDirectoryModel", "replace", "(I)I"⟩
abbrev k_Tw_replace : Cond := .code y_Tw_replace b_Tw_replace 5 (some FieldType.int)
theorem zk_Tw_replace : k_Tw_replace ∈ wz := wz_4 (i := 74) rfl rfl
abbrev b_Tw_deliver : ByteArray := prog_19_method_18_code
def y_Tw_deliver : MethodName := ⟨"HomeDirectoryModel", "deliver", "(I)I"⟩
abbrev k_Tw_deliver : Cond := .code y_Tw_deliver b_Tw_deliver 9 (some FieldType.int)
theorem zk_Tw_deliver : k_Tw_deliver ∈ wz := wz_4 (i := 78) rfl rfl
abbrev b_Tw_behind : ByteArray := prog_19_method_16_code
def y_Tw_behind : MethodName := ⟨"HomeDirectoryModel", "behind", "(I)Z"⟩
abbrev k_Tw_behind : Cond := .code y_Tw_behind b_Tw_behind 3 (some FieldType.boolean)
theorem zk_Tw_behind : k_Tw_behind ∈ wz := wz_4 (i := 82) rfl rfl
abbrev b_Tw_stalls : ByteArray := prog_19_method_17_code
def y_Tw_stalls : MethodName := ⟨"HomeDirectoryModel", "stalls", "(I)Z"⟩
abbrev k_Tw_stalls : Cond := .code y_Tw_stalls b_Tw_stalls 3 (some FieldType.boolean)
theorem zk_Tw_stalls : k_Tw_stalls ∈ wz := wz_4 (i := 86) rfl rfl
abbrev b_Tw_remove : ByteArray := prog_19_method_9_code
def y_Tw_remove : MethodName := ⟨"HomeDirectoryModel", "remove", "(I)V"⟩
abbrev k_Tw_remove : Cond := .code y_Tw_remove b_Tw_remove 3 none
theorem zk_Tw_remove : k_Tw_remove ∈ wz := wz_4 (i := 90) rfl rfl
abbrev b_Tw_atHome : ByteArray := prog_19_method_22_code
def y_Tw_atHome : MethodName := ⟨"HomeDirectoryModel", "atHome", "(IIII)V"⟩
abbrev k_Tw_atHome : Cond := .code y_Tw_atHome b_Tw_atHome 6 none
theorem zk_Tw_atHome : k_Tw_atHome ∈ wz := wz_4 (i := 94) rfl rfl
abbrev b_Tw_gets : ByteArray := prog_19_method_23_code
def y_Tw_gets : MethodName := ⟨"HomeDirectoryModel", "gets", "(II)V"⟩
abbrev k_Tw_gets : Cond := .code y_Tw_gets b_Tw_gets 3 none
theorem zk_Tw_gets : k_Tw_gets ∈ wz := wz_4 (i := 98) rfl rfl
abbrev b_Tw_data : ByteArray := prog_19_method_8_code
def y_Tw_data : MethodName := ⟨"HomeDirectoryModel", "data", "(IIIII)V"⟩
abbrev k_Tw_data : Cond := .code y_Tw_data b_Tw_data 6 none
theorem zk_Tw_data : k_Tw_data ∈ wz := wz_4 (i := 102) rfl rfl
abbrev b_Tw_getm : ByteArray := prog_19_method_24_code
def y_Tw_getm : MethodName := ⟨"HomeDirectoryModel", "getm", "(II)V"⟩
abbrev k_Tw_getm : Cond := .code y_Tw_getm b_Tw_getm 4 none
theorem zk_Tw_getm : k_Tw_getm ∈ wz := wz_4 (i := 106) rfl rfl
abbrev b_Tw_sharers : ByteArray := prog_19_method_21_code
def y_Tw_sharers : MethodName := ⟨"HomeDirectoryModel", "sharers", "(II)I"⟩
abbrev k_Tw_sharers : Cond := .code y_Tw_sharers b_Tw_sharers 5 (some FieldType.int)
theorem zk_Tw_sharers : k_Tw_sharers ∈ wz := wz_4 (i := 110) rfl rfl
abbrev b_Tw_atCore : ByteArray := prog_19_method_19_code
def y_Tw_atCore : MethodName := ⟨"HomeDirectoryModel", "atCore", "(IIIIII)V"⟩
abbrev k_Tw_atCore : Cond := .code y_Tw_atCore b_Tw_atCore 10 none
theorem zk_Tw_atCore : k_Tw_atCore ∈ wz := wz_4 (i := 114) rfl rfl
abbrev b_Tw_finish : ByteArray := prog_19_method_20_code
def y_Tw_finish : MethodName := ⟨"HomeDirectoryModel", "finish", "(II)V"⟩
abbrev k_Tw_finish : Cond := .code y_Tw_finish b_Tw_finish 5 none
theorem zk_Tw_finish : k_Tw_finish ∈ wz := wz_4 (i := 118) rfl rfl
abbrev b_Tw_messages : ByteArray := prog_19_method_25_code
def y_Tw_messages : MethodName := ⟨"HomeDirectoryModel", "messages", "()I"⟩
abbrev k_Tw_messages : Cond := .code y_Tw_messages b_Tw_messages 1 (some FieldType.int)
theorem zk_Tw_messages : k_Tw_messages ∈ wz := wz_4 (i := 122) rfl rfl
abbrev b_Tw_message : ByteArray := prog_19_method_26_code
def y_Tw_message : MethodName := ⟨"HomeDirectoryModel", "message", "(II)I"⟩
abbrev k_Tw_message : Cond := .code y_Tw_message b_Tw_message 4 (some FieldType.int)
theorem zk_Tw_message : k_Tw_message ∈ wz := wz_4 (i := 126) rfl rfl
abbrev b_Tw_line : ByteArray := prog_19_method_27_code
def y_Tw_line : MethodName := ⟨"HomeDirectoryModel", "line", "(II)I"⟩
abbrev k_Tw_line : Cond := .code y_Tw_line b_Tw_line 3 (some FieldType.int)
theorem zk_Tw_line : k_Tw_line ∈ wz := wz_4 (i := 130) rfl rfl
abbrev b_Tw_word : ByteArray := prog_19_method_28_code
def y_Tw_word : MethodName := ⟨"HomeDirectoryModel", "word", "(II)I"⟩
abbrev k_Tw_word : Cond := .code y_Tw_word b_Tw_word 5 (some FieldType.int)
theorem zk_Tw_word : k_Tw_word ∈ wz := wz_4 (i := 134) rfl rfl
abbrev b_Tw_home : ByteArray := prog_19_method_29_code
def y_Tw_home : MethodName := ⟨"HomeDirectoryModel", "home", "(I)I"⟩
abbrev k_Tw_home : Cond := .code y_Tw_home b_Tw_home 4 (some FieldType.int)
theorem zk_Tw_home : k_Tw_home ∈ wz := wz_4 (i := 138) rfl rfl
abbrev b_Tw_memory : ByteArray := prog_19_method_30_code
def y_Tw_memory : MethodName := ⟨"HomeDirectoryModel", "memory", "(I)I"⟩
abbrev k_Tw_memory : Cond := .code y_Tw_memory b_Tw_memory 2 (some FieldType.int)
theorem zk_Tw_memory : k_Tw_memory ∈ wz := wz_4 (i := 142) rfl rfl
abbrev b_Tw_accumulator : ByteArray := prog_19_method_31_code
def y_Tw_accumulator : MethodName := ⟨"HomeDirectoryModel", "accumulator", "(I)I"⟩
abbrev k_Tw_accumulator : Cond := .code y_Tw_accumulator b_Tw_accumulator 2 (some FieldType.int)
theorem zk_Tw_accumulator : k_Tw_accumulator ∈ wz := wz_4 (i := 146) rfl rfl
abbrev b_Tw_place : ByteArray := prog_19_method_32_code
def y_Tw_place : MethodName := ⟨"HomeDirectoryModel", "place", "(I)I"⟩
abbrev k_Tw_place : Cond := .code y_Tw_place b_Tw_place 2 (some FieldType.int)
theorem zk_Tw_place : k_Tw_place ∈ wz := wz_4 (i := 150) rfl rfl
abbrev b_Tw_sent : ByteArray := prog_19_method_33_code
def y_Tw_sent : MethodName := ⟨"HomeDirectoryModel", "sent", "()I"⟩
abbrev k_Tw_sent : Cond := .code y_Tw_sent b_Tw_sent 1 (some FieldType.int)
theorem zk_Tw_sent : k_Tw_sent ∈ wz := wz_4 (i := 154) rfl rfl
abbrev b_Tw_performed : ByteArray := prog_19_method_34_code
def y_Tw_performed : MethodName := ⟨"HomeDirectoryModel", "performed", "()I"⟩
abbrev k_Tw_performed : Cond := .code y_Tw_performed b_Tw_performed 1 (some FieldType.int)
theorem zk_Tw_performed : k_Tw_performed ∈ wz := wz_4 (i := 158) rfl rfl
theorem zn_law : Cond.initialized R_law ∈ wz := wz_1 (i := 0) rfl rfl
theorem zn_HD : Cond.initialized R_HD ∈ wz := wz_1 (i := 1) rfl rfl
theorem zn_Enum : Cond.initialized R_Enum ∈ wz := wz_1 (i := 2) rfl rfl
theorem zn_Op : Cond.initialized R_Op ∈ wz := wz_1 (i := 3) rfl rfl
theorem zn_Net : Cond.initialized R_Net ∈ wz := wz_1 (i := 4) rfl rfl
theorem zn_Chart : Cond.initialized R_Chart ∈ wz := wz_1 (i := 5) rfl rfl
theorem zn_Mode : Cond.initialized R_Mode ∈ wz := wz_1 (i := 6) rfl rfl
theorem zn_Emp : Cond.initialized R_Emp ∈ wz := wz_1 (i := 7) rfl rfl
theorem zn_Sha : Cond.initialized R_Sha ∈ wz := wz_1 (i := 8) rfl rfl
theorem zn_Own : Cond.initialized R_Own ∈ wz := wz_1 (i := 9) rfl rfl
theorem zn_Fet : Cond.initialized R_Fet ∈ wz := wz_1 (i := 10) rfl rfl
theorem zn_Gai : Cond.initialized R_Gai ∈ wz := wz_1 (i := 11) rfl rfl
theorem zn_Math : Cond.initialized R_Math ∈ wz := wz_1 (i := 12) rfl rfl
theorem zn_Home : Cond.initialized R_Home ∈ wz := wz_1 (i := 13) rfl rfl
theorem zn_Std : Cond.initialized R_Std ∈ wz := wz_1 (i := 14) rfl rfl
theorem zn_Core : Cond.initialized R_Core ∈ wz := wz_1 (i := 15) rfl rfl
theorem zn_Line : Cond.initialized R_Line ∈ wz := wz_1 (i := 16) rfl rfl
theorem zn_Tw : Cond.initialized R_Tw ∈ wz := wz_1 (i := 17) rfl rfl
theorem zn_Kind : Cond.initialized R_Kind ∈ wz := wz_1 (i := 18) rfl rfl
theorem zn_Msg : Cond.initialized R_Msg ∈ wz := wz_1 (i := 19) rfl rfl
theorem zn_Int : Cond.initialized R_Int ∈ wz := wz_1 (i := 20) rfl rfl
theorem zc_law_7 : Cond.classLink R_law 7 R_HD ∈ wz := wz_1 (i := 21) rfl rfl
theorem zI_HD : Cond.instantiable R_HD 9 ∈ wz := wz_1 (i := 22) rfl rfl
theorem zm_law_15 : Cond.methodLink R_law 15 y_HD_init ∈ wz := wz_1 (i := 23) rfl rfl
theorem zi_HD_init : Cond.instanceMethod y_HD_init ∈ wz := wz_1 (i := 24) rfl rfl
theorem zm_HD_1 : Cond.methodLink R_HD 1 y_Obj_init ∈ wz := wz_1 (i := 26) rfl rfl
theorem zi_Obj_init : Cond.instanceMethod y_Obj_init ∈ wz := wz_1 (i := 27) rfl rfl
theorem zm_HD_7 : Cond.methodLink R_HD 7 y_Op_values ∈ wz := wz_1 (i := 29) rfl rfl
theorem zS_Op_values : Cond.static y_Op_values ∈ wz := wz_1 (i := 30) rfl rfl
theorem zf_Op_22 : Cond.fieldLink R_Op 22 R_Op "$VALUES" "[LHomeDirectory$Op;" ∈ wz := wz_1 (i := 32) rfl rfl
theorem zL_Op_dVALUES : Cond.laysStatic R_Op "$VALUES" "[LHomeDirectory$Op;" ∈ lw_tbl := tb_1 (i := 33) rfl
theorem zm_Op_26 : Cond.methodLink R_Op 26 ⟨"[LHomeDirectory$Op;", "clone", "()Ljava/lang/Object;"⟩ ∈ wz := wz_1 (i := 34) rfl rfl
theorem zM_arr_clone : Cond.sameMethod "[LHomeDirectory$Op;" R_Obj "clone" "()Ljava/lang/Object;" ∈ wz := wz_1 (i := 35) rfl rfl
theorem zN_xjavalangObject_clone : Cond.native ⟨"java/lang/Object", "clone", "()Ljava/lang/Object;"⟩ ∈ wz := wz_1 (i := 36) rfl rfl
theorem zi_xjavalangObject_clone : Cond.instanceMethod ⟨"java/lang/Object", "clone", "()Ljava/lang/Object;"⟩ ∈ wz := wz_1 (i := 37) rfl rfl
theorem zs_arr_xjavalangObject_clone_v : Cond.selects "[LHomeDirectory$Op;" ⟨"[LHomeDirectory$Op;", "clone", "()Ljava/lang/Object;"⟩ ⟨"java/lang/Object", "clone", "()Ljava/lang/Object;"⟩ ∈ wz := wz_1 (i := 38) rfl rfl
theorem zc_Op_27 : Cond.classLink R_Op 27 "[LHomeDirectory$Op;" ∈ wz := wz_1 (i := 41) rfl rfl
theorem zc_HD_19 : Cond.classLink R_HD 19 R_Net ∈ wz := wz_1 (i := 42) rfl rfl
theorem zI_Net : Cond.instantiable R_Net 5 ∈ wz := wz_1 (i := 43) rfl rfl
theorem zi_Net_init : Cond.instanceMethod y_Net_init ∈ wz := wz_1 (i := 45) rfl rfl
theorem zm_Net_3 : Cond.methodLink R_Net 3 y_Obj_init ∈ wz := wz_1 (i := 47) rfl rfl
theorem zf_Net_44 : Cond.fieldLink R_Net 44 R_Net "first" "LHomeDirectory$Message;" ∈ wz := wz_1 (i := 48) rfl rfl
theorem zf_Net_47 : Cond.fieldLink R_Net 47 R_Net "last" "LHomeDirectory$Message;" ∈ wz := wz_1 (i := 49) rfl rfl
theorem zf_Net_9 : Cond.fieldLink R_Net 9 R_Net "spare" "LHomeDirectory$Message;" ∈ wz := wz_1 (i := 50) rfl rfl
theorem zf_Net_50 : Cond.fieldLink R_Net 50 R_Net "size" "I" ∈ wz := wz_1 (i := 51) rfl rfl
theorem zf_Net_53 : Cond.fieldLink R_Net 53 R_Net "sent" "I" ∈ wz := wz_1 (i := 53) rfl rfl
theorem zc_HD_26 : Cond.classLink R_HD 26 R_Chart ∈ wz := wz_1 (i := 66) rfl rfl
theorem zI_Chart : Cond.instantiable R_Chart 11 ∈ wz := wz_1 (i := 67) rfl rfl
theorem zi_Chart_init : Cond.instanceMethod y_Chart_init ∈ wz := wz_1 (i := 69) rfl rfl
theorem zm_Chart_1 : Cond.methodLink R_Chart 1 y_Obj_init ∈ wz := wz_1 (i := 71) rfl rfl
theorem zc_Chart_7 : Cond.classLink R_Chart 7 R_Emp ∈ wz := wz_1 (i := 72) rfl rfl
theorem zI_Emp : Cond.instantiable R_Emp 2 ∈ wz := wz_1 (i := 73) rfl rfl
theorem zm_Chart_9 : Cond.methodLink R_Chart 9 y_Emp_init ∈ wz := wz_1 (i := 74) rfl rfl
theorem zi_Emp_init : Cond.instanceMethod y_Emp_init ∈ wz := wz_1 (i := 75) rfl rfl
theorem zm_Emp_1 : Cond.methodLink R_Emp 1 y_Mode_init ∈ wz := wz_1 (i := 77) rfl rfl
theorem zi_Mode_init : Cond.instanceMethod y_Mode_init ∈ wz := wz_1 (i := 78) rfl rfl
theorem zm_Mode_1 : Cond.methodLink R_Mode 1 y_Obj_init ∈ wz := wz_1 (i := 80) rfl rfl
theorem zf_Mode_7 : Cond.fieldLink R_Mode 7 R_Mode "code" "I" ∈ wz := wz_1 (i := 81) rfl rfl
theorem zf_HD_218 : Cond.fieldLink R_HD 218 R_Mode "code" "I" ∈ wz := wz_1 (i := 82) rfl rfl
theorem zf_Mode_13 : Cond.fieldLink R_Mode 13 R_Mode "holds" "Z" ∈ wz := wz_1 (i := 83) rfl rfl
theorem zf_Gai_48 : Cond.fieldLink R_Gai 48 R_Gai "holds" "Z" ∈ wz := wz_1 (i := 84) rfl rfl
theorem zF_Gai_holds : Cond.sameField R_Gai R_Mode "holds" "Z" ∈ wz := wz_1 (i := 85) rfl rfl
theorem zf_HD_223 : Cond.fieldLink R_HD 223 R_Mode "holds" "Z" ∈ wz := wz_1 (i := 86) rfl rfl
theorem zc_Chart_18 : Cond.classLink R_Chart 18 R_Sha ∈ wz := wz_1 (i := 92) rfl rfl
theorem zI_Sha : Cond.instantiable R_Sha 2 ∈ wz := wz_1 (i := 93) rfl rfl
theorem zm_Chart_20 : Cond.methodLink R_Chart 20 y_Sha_init ∈ wz := wz_1 (i := 94) rfl rfl
theorem zi_Sha_init : Cond.instanceMethod y_Sha_init ∈ wz := wz_1 (i := 95) rfl rfl
theorem zm_Sha_1 : Cond.methodLink R_Sha 1 y_Mode_init ∈ wz := wz_1 (i := 97) rfl rfl
theorem zc_Chart_24 : Cond.classLink R_Chart 24 R_Own ∈ wz := wz_1 (i := 101) rfl rfl
theorem zI_Own : Cond.instantiable R_Own 2 ∈ wz := wz_1 (i := 102) rfl rfl
theorem zm_Chart_26 : Cond.methodLink R_Chart 26 y_Own_init ∈ wz := wz_1 (i := 103) rfl rfl
theorem zi_Own_init : Cond.instanceMethod y_Own_init ∈ wz := wz_1 (i := 104) rfl rfl
theorem zm_Own_3 : Cond.methodLink R_Own 3 y_Mode_init ∈ wz := wz_1 (i := 106) rfl rfl
theorem zc_Chart_30 : Cond.classLink R_Chart 30 R_Fet ∈ wz := wz_1 (i := 110) rfl rfl
theorem zI_Fet : Cond.instantiable R_Fet 2 ∈ wz := wz_1 (i := 111) rfl rfl
theorem zm_Chart_32 : Cond.methodLink R_Chart 32 y_Fet_init ∈ wz := wz_1 (i := 112) rfl rfl
theorem zi_Fet_init : Cond.instanceMethod y_Fet_init ∈ wz := wz_1 (i := 113) rfl rfl
theorem zm_Fet_1 : Cond.methodLink R_Fet 1 y_Mode_init ∈ wz := wz_1 (i := 115) rfl rfl
theorem zc_Chart_36 : Cond.classLink R_Chart 36 R_Gai ∈ wz := wz_1 (i := 119) rfl rfl
theorem zI_Gai : Cond.instantiable R_Gai 3 ∈ wz := wz_1 (i := 120) rfl rfl
theorem zm_Chart_38 : Cond.methodLink R_Chart 38 y_Gai_init ∈ wz := wz_1 (i := 121) rfl rfl
theorem zi_Gai_init : Cond.instanceMethod y_Gai_init ∈ wz := wz_1 (i := 122) rfl rfl
theorem zm_Gai_1 : Cond.methodLink R_Gai 1 y_Mode_init ∈ wz := wz_1 (i := 124) rfl rfl
theorem zf_Gai_7 : Cond.fieldLink R_Gai 7 R_Gai "counted" "Z" ∈ wz := wz_1 (i := 125) rfl rfl
theorem zf_Chart_12 : Cond.fieldLink R_Chart 12 R_Chart "idle" "LHomeDirectory$Mode;" ∈ wz := wz_1 (i := 131) rfl rfl
theorem zf_Line_26 : Cond.fieldLink R_Line 26 R_Chart "idle" "LHomeDirectory$Mode;" ∈ wz := wz_1 (i := 132) rfl rfl
theorem zf_Sha_41 : Cond.fieldLink R_Sha 41 R_Chart "idle" "LHomeDirectory$Mode;" ∈ wz := wz_1 (i := 133) rfl rfl
theorem zf_Own_68 : Cond.fieldLink R_Own 68 R_Chart "idle" "LHomeDirectory$Mode;" ∈ wz := wz_1 (i := 134) rfl rfl
theorem zf_HD_131 : Cond.fieldLink R_HD 131 R_Chart "idle" "LHomeDirectory$Mode;" ∈ wz := wz_1 (i := 135) rfl rfl
theorem zf_Chart_21 : Cond.fieldLink R_Chart 21 R_Chart "shared" "LHomeDirectory$Mode;" ∈ wz := wz_1 (i := 136) rfl rfl
theorem zf_Fet_29 : Cond.fieldLink R_Fet 29 R_Chart "shared" "LHomeDirectory$Mode;" ∈ wz := wz_1 (i := 137) rfl rfl
theorem zf_Sha_35 : Cond.fieldLink R_Sha 35 R_Chart "shared" "LHomeDirectory$Mode;" ∈ wz := wz_1 (i := 138) rfl rfl
theorem zf_Own_59 : Cond.fieldLink R_Own 59 R_Chart "shared" "LHomeDirectory$Mode;" ∈ wz := wz_1 (i := 139) rfl rfl
theorem zf_Line_70 : Cond.fieldLink R_Line 70 R_Chart "shared" "LHomeDirectory$Mode;" ∈ wz := wz_1 (i := 140) rfl rfl
theorem zf_HD_121 : Cond.fieldLink R_HD 121 R_Chart "shared" "LHomeDirectory$Mode;" ∈ wz := wz_1 (i := 141) rfl rfl
theorem zf_Chart_27 : Cond.fieldLink R_Chart 27 R_Chart "owned" "LHomeDirectory$Mode;" ∈ wz := wz_1 (i := 142) rfl rfl
theorem zf_Own_15 : Cond.fieldLink R_Own 15 R_Chart "owned" "LHomeDirectory$Mode;" ∈ wz := wz_1 (i := 143) rfl rfl
theorem zf_Gai_42 : Cond.fieldLink R_Gai 42 R_Chart "owned" "LHomeDirectory$Mode;" ∈ wz := wz_1 (i := 144) rfl rfl
theorem zf_HD_118 : Cond.fieldLink R_HD 118 R_Chart "owned" "LHomeDirectory$Mode;" ∈ wz := wz_1 (i := 145) rfl rfl
theorem zf_Chart_33 : Cond.fieldLink R_Chart 33 R_Chart "fetching" "LHomeDirectory$Mode;" ∈ wz := wz_1 (i := 146) rfl rfl
theorem zf_Line_61 : Cond.fieldLink R_Line 61 R_Chart "fetching" "LHomeDirectory$Mode;" ∈ wz := wz_1 (i := 147) rfl rfl
theorem zf_Chart_41 : Cond.fieldLink R_Chart 41 R_Chart "gaining" "LHomeDirectory$Mode;" ∈ wz := wz_1 (i := 148) rfl rfl
theorem zf_Gai_64 : Cond.fieldLink R_Gai 64 R_Chart "gaining" "LHomeDirectory$Mode;" ∈ wz := wz_1 (i := 149) rfl rfl
theorem zf_Line_76 : Cond.fieldLink R_Line 76 R_Chart "gaining" "LHomeDirectory$Mode;" ∈ wz := wz_1 (i := 150) rfl rfl
theorem zf_Chart_44 : Cond.fieldLink R_Chart 44 R_Chart "counting" "LHomeDirectory$Mode;" ∈ wz := wz_1 (i := 151) rfl rfl
theorem zf_Gai_54 : Cond.fieldLink R_Gai 54 R_Chart "counting" "LHomeDirectory$Mode;" ∈ wz := wz_1 (i := 152) rfl rfl
theorem zf_Chart_47 : Cond.fieldLink R_Chart 47 R_Chart "sharedGaining" "LHomeDirectory$Mode;" ∈ wz := wz_1 (i := 153) rfl rfl
theorem zf_Line_73 : Cond.fieldLink R_Line 73 R_Chart "sharedGaining" "LHomeDirectory$Mode;" ∈ wz := wz_1 (i := 154) rfl rfl
theorem zf_Chart_50 : Cond.fieldLink R_Chart 50 R_Chart "sharedCounting" "LHomeDirectory$Mode;" ∈ wz := wz_1 (i := 155) rfl rfl
theorem zf_Gai_51 : Cond.fieldLink R_Gai 51 R_Chart "sharedCounting" "LHomeDirectory$Mode;" ∈ wz := wz_1 (i := 156) rfl rfl
theorem zf_Chart_53 : Cond.fieldLink R_Chart 53 R_Chart "ownedLeaving" "LHomeDirectory$Mode;" ∈ wz := wz_1 (i := 157) rfl rfl
theorem zf_Line_95 : Cond.fieldLink R_Line 95 R_Chart "ownedLeaving" "LHomeDirectory$Mode;" ∈ wz := wz_1 (i := 158) rfl rfl
theorem zf_Chart_56 : Cond.fieldLink R_Chart 56 R_Chart "sharedLeaving" "LHomeDirectory$Mode;" ∈ wz := wz_1 (i := 159) rfl rfl
theorem zf_Own_62 : Cond.fieldLink R_Own 62 R_Chart "sharedLeaving" "LHomeDirectory$Mode;" ∈ wz := wz_1 (i := 160) rfl rfl
theorem zf_Line_82 : Cond.fieldLink R_Line 82 R_Chart "sharedLeaving" "LHomeDirectory$Mode;" ∈ wz := wz_1 (i := 161) rfl rfl
theorem zf_Chart_59 : Cond.fieldLink R_Chart 59 R_Chart "gone" "LHomeDirectory$Mode;" ∈ wz := wz_1 (i := 162) rfl rfl
theorem zf_Sha_44 : Cond.fieldLink R_Sha 44 R_Chart "gone" "LHomeDirectory$Mode;" ∈ wz := wz_1 (i := 163) rfl rfl
theorem zf_Own_71 : Cond.fieldLink R_Own 71 R_Chart "gone" "LHomeDirectory$Mode;" ∈ wz := wz_1 (i := 164) rfl rfl
theorem zc_HD_33 : Cond.classLink R_HD 33 R_Core ∈ wz := wz_1 (i := 188) rfl rfl
theorem zc_HD_39 : Cond.classLink R_HD 39 R_Line ∈ wz := wz_1 (i := 190) rfl rfl
theorem zc_HD_45 : Cond.classLink R_HD 45 R_Home ∈ wz := wz_1 (i := 192) rfl rfl
theorem zm_HD_51 : Cond.methodLink R_HD 51 y_Math_min ∈ wz := wz_1 (i := 194) rfl rfl
theorem zS_Math_min : Cond.static y_Math_min ∈ wz := wz_1 (i := 195) rfl rfl
theorem zm_HD_57 : Cond.methodLink R_HD 57 y_Math_max ∈ wz := wz_1 (i := 197) rfl rfl
theorem zS_Math_max : Cond.static y_Math_max ∈ wz := wz_1 (i := 198) rfl rfl
theorem zI_Home : Cond.instantiable R_Home 6 ∈ wz := wz_1 (i := 200) rfl rfl
theorem zm_HD_67 : Cond.methodLink R_HD 67 y_Home_init ∈ wz := wz_1 (i := 201) rfl rfl
theorem zi_Home_init : Cond.instanceMethod y_Home_init ∈ wz := wz_1 (i := 202) rfl rfl
theorem zm_Home_3 : Cond.methodLink R_Home 3 y_Obj_init ∈ wz := wz_1 (i := 204) rfl rfl
theorem zf_Home_9 : Cond.fieldLink R_Home 9 R_Std "I" "LHomeDirectory$Standing;" ∈ wz := wz_1 (i := 205) rfl rfl
theorem zL_Std_I : Cond.laysStatic R_Std "I" "LHomeDirectory$Standing;" ∈ lw_tbl := tb_1 (i := 206) rfl
theorem zf_Home_23 : Cond.fieldLink R_Home 23 R_Home "block" "I" ∈ wz := wz_1 (i := 207) rfl rfl
theorem zf_Home_26 : Cond.fieldLink R_Home 26 R_Home "net" "LHomeDirectory$Network;" ∈ wz := wz_1 (i := 208) rfl rfl
theorem zf_Home_15 : Cond.fieldLink R_Home 15 R_Home "state" "LHomeDirectory$Standing;" ∈ wz := wz_1 (i := 209) rfl rfl
theorem zf_Home_20 : Cond.fieldLink R_Home 20 R_Home "owner" "I" ∈ wz := wz_1 (i := 211) rfl rfl
theorem zf_Home_58 : Cond.fieldLink R_Home 58 R_Home "sharers" "I" ∈ wz := wz_1 (i := 213) rfl rfl
theorem zf_Home_55 : Cond.fieldLink R_Home 55 R_Home "memory" "I" ∈ wz := wz_1 (i := 215) rfl rfl
theorem zI_Core : Cond.instantiable R_Core 6 ∈ wz := wz_1 (i := 230) rfl rfl
theorem zi_Core_init : Cond.instanceMethod y_Core_init ∈ wz := wz_1 (i := 232) rfl rfl
theorem zm_Core_1 : Cond.methodLink R_Core 1 y_Obj_init ∈ wz := wz_1 (i := 234) rfl rfl
theorem zf_Core_7 : Cond.fieldLink R_Core 7 R_Core "ops" "[B" ∈ wz := wz_1 (i := 235) rfl rfl
theorem zf_HD_93 : Cond.fieldLink R_HD 93 R_Core "ops" "[B" ∈ wz := wz_1 (i := 236) rfl rfl
theorem zf_Core_13 : Cond.fieldLink R_Core 13 R_Core "args" "[I" ∈ wz := wz_1 (i := 237) rfl rfl
theorem zf_HD_96 : Cond.fieldLink R_HD 96 R_Core "args" "[I" ∈ wz := wz_1 (i := 238) rfl rfl
theorem zf_HD_78 : Cond.fieldLink R_HD 78 R_Core "size" "I" ∈ wz := wz_1 (i := 239) rfl rfl
theorem zf_Core_33 : Cond.fieldLink R_Core 33 R_Core "place" "I" ∈ wz := wz_2 (i := 0) rfl rfl
theorem zf_HD_103 : Cond.fieldLink R_HD 103 R_Core "place" "I" ∈ wz := wz_2 (i := 1) rfl rfl
theorem zf_Core_23 : Cond.fieldLink R_Core 23 R_Core "a" "I" ∈ wz := wz_2 (i := 2) rfl rfl
theorem zf_HD_243 : Cond.fieldLink R_HD 243 R_Core "a" "I" ∈ wz := wz_2 (i := 3) rfl rfl
theorem zf_HD_100 : Cond.fieldLink R_HD 100 R_Core "waits" "I" ∈ wz := wz_2 (i := 4) rfl rfl
theorem zA_byte : Cond.arrayClass .byte ∈ wz := wz_2 (i := 18) rfl rfl
theorem zA_int : Cond.arrayClass .int ∈ wz := wz_2 (i := 19) rfl rfl
theorem zI_Line : Cond.instantiable R_Line 8 ∈ wz := wz_2 (i := 20) rfl rfl
theorem zm_HD_71 : Cond.methodLink R_HD 71 y_Line_init ∈ wz := wz_2 (i := 21) rfl rfl
theorem zi_Line_init : Cond.instanceMethod y_Line_init ∈ wz := wz_2 (i := 22) rfl rfl
theorem zm_Line_3 : Cond.methodLink R_Line 3 y_Obj_init ∈ wz := wz_2 (i := 24) rfl rfl
theorem zf_Line_9 : Cond.fieldLink R_Line 9 R_Line "core" "I" ∈ wz := wz_2 (i := 25) rfl rfl
theorem zf_Own_40 : Cond.fieldLink R_Own 40 R_Line "core" "I" ∈ wz := wz_2 (i := 26) rfl rfl
theorem zf_HD_192 : Cond.fieldLink R_HD 192 R_Line "core" "I" ∈ wz := wz_2 (i := 27) rfl rfl
theorem zf_Line_15 : Cond.fieldLink R_Line 15 R_Line "block" "I" ∈ wz := wz_2 (i := 28) rfl rfl
theorem zf_Own_47 : Cond.fieldLink R_Own 47 R_Line "block" "I" ∈ wz := wz_2 (i := 29) rfl rfl
theorem zf_HD_197 : Cond.fieldLink R_HD 197 R_Line "block" "I" ∈ wz := wz_2 (i := 30) rfl rfl
theorem zf_Line_18 : Cond.fieldLink R_Line 18 R_Line "net" "LHomeDirectory$Network;" ∈ wz := wz_2 (i := 31) rfl rfl
theorem zf_Own_33 : Cond.fieldLink R_Own 33 R_Line "net" "LHomeDirectory$Network;" ∈ wz := wz_2 (i := 32) rfl rfl
theorem zf_Line_22 : Cond.fieldLink R_Line 22 R_Line "chart" "LHomeDirectory$Chart;" ∈ wz := wz_2 (i := 33) rfl rfl
theorem zf_Own_9 : Cond.fieldLink R_Own 9 R_Line "chart" "LHomeDirectory$Chart;" ∈ wz := wz_2 (i := 34) rfl rfl
theorem zf_Fet_25 : Cond.fieldLink R_Fet 25 R_Line "chart" "LHomeDirectory$Chart;" ∈ wz := wz_2 (i := 35) rfl rfl
theorem zf_Sha_31 : Cond.fieldLink R_Sha 31 R_Line "chart" "LHomeDirectory$Chart;" ∈ wz := wz_2 (i := 36) rfl rfl
theorem zf_Gai_38 : Cond.fieldLink R_Gai 38 R_Line "chart" "LHomeDirectory$Chart;" ∈ wz := wz_2 (i := 37) rfl rfl
theorem zf_Line_32 : Cond.fieldLink R_Line 32 R_Line "mode" "LHomeDirectory$Mode;" ∈ wz := wz_2 (i := 38) rfl rfl
theorem zf_Fet_35 : Cond.fieldLink R_Fet 35 R_Line "mode" "LHomeDirectory$Mode;" ∈ wz := wz_2 (i := 39) rfl rfl
theorem zf_Sha_47 : Cond.fieldLink R_Sha 47 R_Line "mode" "LHomeDirectory$Mode;" ∈ wz := wz_2 (i := 40) rfl rfl
theorem zf_Gai_57 : Cond.fieldLink R_Gai 57 R_Line "mode" "LHomeDirectory$Mode;" ∈ wz := wz_2 (i := 41) rfl rfl
theorem zf_Own_65 : Cond.fieldLink R_Own 65 R_Line "mode" "LHomeDirectory$Mode;" ∈ wz := wz_2 (i := 42) rfl rfl
theorem zf_HD_114 : Cond.fieldLink R_HD 114 R_Line "mode" "LHomeDirectory$Mode;" ∈ wz := wz_2 (i := 43) rfl rfl
theorem zf_Fet_22 : Cond.fieldLink R_Fet 22 R_Line "word" "I" ∈ wz := wz_2 (i := 44) rfl rfl
theorem zf_Gai_29 : Cond.fieldLink R_Gai 29 R_Line "word" "I" ∈ wz := wz_2 (i := 45) rfl rfl
theorem zf_Own_50 : Cond.fieldLink R_Own 50 R_Line "word" "I" ∈ wz := wz_2 (i := 46) rfl rfl
theorem zf_Core_36 : Cond.fieldLink R_Core 36 R_Line "word" "I" ∈ wz := wz_2 (i := 47) rfl rfl
theorem zf_Line_88 : Cond.fieldLink R_Line 88 R_Line "word" "I" ∈ wz := wz_2 (i := 48) rfl rfl
theorem zf_HD_226 : Cond.fieldLink R_HD 226 R_Line "word" "I" ∈ wz := wz_2 (i := 49) rfl rfl
theorem zf_Gai_32 : Cond.fieldLink R_Gai 32 R_Line "count" "I" ∈ wz := wz_2 (i := 50) rfl rfl
theorem zf_Line_67 : Cond.fieldLink R_Line 67 R_Line "count" "I" ∈ wz := wz_2 (i := 51) rfl rfl
theorem zf_HD_134 : Cond.fieldLink R_HD 134 R_Line "used" "I" ∈ wz := wz_2 (i := 52) rfl rfl
theorem zf_HD_60 : Cond.fieldLink R_HD 60 R_HD "many" "I" ∈ wz := wz_2 (i := 70) rfl rfl
theorem zf_HD_64 : Cond.fieldLink R_HD 64 R_HD "room" "I" ∈ wz := wz_2 (i := 71) rfl rfl
theorem zf_HD_13 : Cond.fieldLink R_HD 13 R_HD "ops" "[LHomeDirectory$Op;" ∈ wz := wz_2 (i := 72) rfl rfl
theorem zf_HD_22 : Cond.fieldLink R_HD 22 R_HD "net" "LHomeDirectory$Network;" ∈ wz := wz_2 (i := 73) rfl rfl
theorem zf_HD_29 : Cond.fieldLink R_HD 29 R_HD "chart" "LHomeDirectory$Chart;" ∈ wz := wz_2 (i := 74) rfl rfl
theorem zf_HD_35 : Cond.fieldLink R_HD 35 R_HD "cores" "[LHomeDirectory$Core;" ∈ wz := wz_2 (i := 75) rfl rfl
theorem zf_HD_41 : Cond.fieldLink R_HD 41 R_HD "lines" "[LHomeDirectory$Line;" ∈ wz := wz_2 (i := 76) rfl rfl
theorem zf_HD_47 : Cond.fieldLink R_HD 47 R_HD "homes" "[LHomeDirectory$Home;" ∈ wz := wz_2 (i := 77) rfl rfl
theorem zf_HD_149 : Cond.fieldLink R_HD 149 R_HD "performed" "I" ∈ wz := wz_2 (i := 78) rfl rfl
theorem zm_law_21 : Cond.methodLink R_law 21 y_HD_code ∈ wz := wz_2 (i := 98) rfl rfl
theorem zi_HD_code : Cond.instanceMethod y_HD_code ∈ wz := wz_2 (i := 99) rfl rfl
theorem zs_HD_HD_code : Cond.selects R_HD y_HD_code y_HD_code ∈ wz := wz_2 (i := 100) rfl rfl
theorem zm_HD_74 : Cond.methodLink R_HD 74 y_HD_core ∈ wz := wz_2 (i := 102) rfl rfl
theorem zi_HD_core : Cond.instanceMethod y_HD_core ∈ wz := wz_2 (i := 104) rfl rfl
theorem zm_HD_81 : Cond.methodLink R_HD 81 y_Op_accesses ∈ wz := wz_2 (i := 106) rfl rfl
theorem zi_Op_accesses : Cond.instanceMethod y_Op_accesses ∈ wz := wz_2 (i := 107) rfl rfl
theorem zs_Op_Op_accesses : Cond.selects R_Op y_Op_accesses y_Op_accesses ∈ wz := wz_2 (i := 108) rfl rfl
theorem zf_Op_3 : Cond.fieldLink R_Op 3 R_Op "LOAD" "LHomeDirectory$Op;" ∈ wz := wz_2 (i := 110) rfl rfl
theorem zL_Op_LOAD : Cond.laysStatic R_Op "LOAD" "LHomeDirectory$Op;" ∈ lw_tbl := tb_2 (i := 111) rfl
theorem zf_Op_7 : Cond.fieldLink R_Op 7 R_Op "STORE" "LHomeDirectory$Op;" ∈ wz := wz_2 (i := 112) rfl rfl
theorem zL_Op_STORE : Cond.laysStatic R_Op "STORE" "LHomeDirectory$Op;" ∈ lw_tbl := tb_2 (i := 113) rfl
theorem zf_Op_19 : Cond.fieldLink R_Op 19 R_Op "SWAP" "LHomeDirectory$Op;" ∈ wz := wz_2 (i := 114) rfl rfl
theorem zL_Op_SWAP : Cond.laysStatic R_Op "SWAP" "LHomeDirectory$Op;" ∈ lw_tbl := tb_2 (i := 115) rfl
theorem zm_HD_85 : Cond.methodLink R_HD 85 y_HD_isBlock ∈ wz := wz_2 (i := 116) rfl rfl
theorem zS_HD_isBlock : Cond.static y_HD_isBlock ∈ wz := wz_2 (i := 117) rfl rfl
theorem zf_HD_89 : Cond.fieldLink R_HD 89 R_Op "JUMP" "LHomeDirectory$Op;" ∈ wz := wz_2 (i := 119) rfl rfl
theorem zL_Op_JUMP : Cond.laysStatic R_Op "JUMP" "LHomeDirectory$Op;" ∈ lw_tbl := tb_2 (i := 120) rfl
theorem zm_law_26 : Cond.methodLink R_law 26 y_HD_go ∈ wz := wz_2 (i := 121) rfl rfl
theorem zi_HD_go : Cond.instanceMethod y_HD_go ∈ wz := wz_2 (i := 122) rfl rfl
theorem zs_HD_HD_go : Cond.selects R_HD y_HD_go y_HD_go ∈ wz := wz_2 (i := 123) rfl rfl
theorem zm_law_31 : Cond.methodLink R_law 31 y_HD_step ∈ wz := wz_2 (i := 125) rfl rfl
theorem zi_HD_step : Cond.instanceMethod y_HD_step ∈ wz := wz_2 (i := 126) rfl rfl
theorem zs_HD_HD_step : Cond.selects R_HD y_HD_step y_HD_step ∈ wz := wz_2 (i := 127) rfl rfl
theorem zm_HD_106 : Cond.methodLink R_HD 106 y_Core_compute ∈ wz := wz_2 (i := 129) rfl rfl
theorem zi_Core_compute : Cond.instanceMethod y_Core_compute ∈ wz := wz_2 (i := 130) rfl rfl
theorem zs_Core_Core_compute : Cond.selects R_Core y_Core_compute y_Core_compute ∈ wz := wz_2 (i := 131) rfl rfl
theorem zf_Core_17 : Cond.fieldLink R_Core 17 R_Op "JUMP" "LHomeDirectory$Op;" ∈ wz := wz_2 (i := 133) rfl rfl
theorem zf_Core_27 : Cond.fieldLink R_Core 27 R_Op "ADD" "LHomeDirectory$Op;" ∈ wz := wz_2 (i := 134) rfl rfl
theorem zL_Op_ADD : Cond.laysStatic R_Op "ADD" "LHomeDirectory$Op;" ∈ lw_tbl := tb_2 (i := 135) rfl
theorem zf_Core_30 : Cond.fieldLink R_Core 30 R_Op "SET" "LHomeDirectory$Op;" ∈ wz := wz_2 (i := 136) rfl rfl
theorem zL_Op_SET : Cond.laysStatic R_Op "SET" "LHomeDirectory$Op;" ∈ lw_tbl := tb_2 (i := 137) rfl
theorem zm_HD_110 : Cond.methodLink R_HD 110 y_HD_access ∈ wz := wz_2 (i := 138) rfl rfl
theorem zi_HD_access : Cond.instanceMethod y_HD_access ∈ wz := wz_2 (i := 140) rfl rfl
theorem zf_HD_124 : Cond.fieldLink R_HD 124 R_Op "LOAD" "LHomeDirectory$Op;" ∈ wz := wz_2 (i := 142) rfl rfl
theorem zm_HD_127 : Cond.methodLink R_HD 127 y_HD_perform ∈ wz := wz_2 (i := 143) rfl rfl
theorem zi_HD_perform : Cond.instanceMethod y_HD_perform ∈ wz := wz_2 (i := 145) rfl rfl
theorem zm_HD_146 : Cond.methodLink R_HD 146 y_Core_perform ∈ wz := wz_2 (i := 147) rfl rfl
theorem zi_Core_perform : Cond.instanceMethod y_Core_perform ∈ wz := wz_2 (i := 148) rfl rfl
theorem zs_Core_Core_perform : Cond.selects R_Core y_Core_perform y_Core_perform ∈ wz := wz_2 (i := 149) rfl rfl
theorem zf_Core_41 : Cond.fieldLink R_Core 41 R_Op "LOAD" "LHomeDirectory$Op;" ∈ wz := wz_2 (i := 151) rfl rfl
theorem zf_Core_44 : Cond.fieldLink R_Core 44 R_Op "STORE" "LHomeDirectory$Op;" ∈ wz := wz_2 (i := 152) rfl rfl
theorem zm_HD_137 : Cond.methodLink R_HD 137 y_Line_leave ∈ wz := wz_2 (i := 153) rfl rfl
theorem zi_Line_leave : Cond.instanceMethod y_Line_leave ∈ wz := wz_2 (i := 154) rfl rfl
theorem zs_Line_Line_leave : Cond.selects R_Line y_Line_leave y_Line_leave ∈ wz := wz_2 (i := 155) rfl rfl
theorem zf_Line_79 : Cond.fieldLink R_Line 79 R_Kind "PUTS" "LHomeDirectory$Kind;" ∈ wz := wz_2 (i := 157) rfl rfl
theorem zL_Kind_PUTS : Cond.laysStatic R_Kind "PUTS" "LHomeDirectory$Kind;" ∈ lw_tbl := tb_2 (i := 158) rfl
theorem zm_Line_52 : Cond.methodLink R_Line 52 y_Net_send ∈ wz := wz_2 (i := 159) rfl rfl
theorem zi_Net_send : Cond.instanceMethod y_Net_send ∈ wz := wz_2 (i := 160) rfl rfl
theorem zs_Net_Net_send : Cond.selects R_Net y_Net_send y_Net_send ∈ wz := wz_2 (i := 161) rfl rfl
theorem zc_Net_15 : Cond.classLink R_Net 15 R_Msg ∈ wz := wz_2 (i := 163) rfl rfl
theorem zI_Msg : Cond.instantiable R_Msg 8 ∈ wz := wz_2 (i := 164) rfl rfl
theorem zi_Msg_init : Cond.instanceMethod y_Msg_init ∈ wz := wz_2 (i := 166) rfl rfl
theorem zm_Msg_1 : Cond.methodLink R_Msg 1 y_Obj_init ∈ wz := wz_2 (i := 168) rfl rfl
theorem zf_Msg_7 : Cond.fieldLink R_Msg 7 R_Msg "kind" "LHomeDirectory$Kind;" ∈ wz := wz_2 (i := 169) rfl rfl
theorem zf_Emp_7 : Cond.fieldLink R_Emp 7 R_Msg "kind" "LHomeDirectory$Kind;" ∈ wz := wz_2 (i := 170) rfl rfl
theorem zf_Fet_7 : Cond.fieldLink R_Fet 7 R_Msg "kind" "LHomeDirectory$Kind;" ∈ wz := wz_2 (i := 171) rfl rfl
theorem zf_Gai_13 : Cond.fieldLink R_Gai 13 R_Msg "kind" "LHomeDirectory$Kind;" ∈ wz := wz_2 (i := 172) rfl rfl
theorem zf_Sha_7 : Cond.fieldLink R_Sha 7 R_Msg "kind" "LHomeDirectory$Kind;" ∈ wz := wz_2 (i := 173) rfl rfl
theorem zf_Home_35 : Cond.fieldLink R_Home 35 R_Msg "kind" "LHomeDirectory$Kind;" ∈ wz := wz_2 (i := 174) rfl rfl
theorem zf_Own_21 : Cond.fieldLink R_Own 21 R_Msg "kind" "LHomeDirectory$Kind;" ∈ wz := wz_2 (i := 175) rfl rfl
theorem zf_Net_21 : Cond.fieldLink R_Net 21 R_Msg "kind" "LHomeDirectory$Kind;" ∈ wz := wz_2 (i := 176) rfl rfl
theorem zf_HD_156 : Cond.fieldLink R_HD 156 R_Msg "kind" "LHomeDirectory$Kind;" ∈ wz := wz_2 (i := 177) rfl rfl
theorem zf_Home_30 : Cond.fieldLink R_Home 30 R_Msg "from" "I" ∈ wz := wz_2 (i := 178) rfl rfl
theorem zf_Net_25 : Cond.fieldLink R_Net 25 R_Msg "from" "I" ∈ wz := wz_2 (i := 179) rfl rfl
theorem zf_HD_202 : Cond.fieldLink R_HD 202 R_Msg "from" "I" ∈ wz := wz_2 (i := 180) rfl rfl
theorem zf_Msg_19 : Cond.fieldLink R_Msg 19 R_Msg "to" "I" ∈ wz := wz_2 (i := 181) rfl rfl
theorem zf_Net_29 : Cond.fieldLink R_Net 29 R_Msg "to" "I" ∈ wz := wz_2 (i := 182) rfl rfl
theorem zf_HD_172 : Cond.fieldLink R_HD 172 R_Msg "to" "I" ∈ wz := wz_2 (i := 183) rfl rfl
theorem zf_Msg_23 : Cond.fieldLink R_Msg 23 R_Msg "block" "I" ∈ wz := wz_2 (i := 184) rfl rfl
theorem zf_Net_32 : Cond.fieldLink R_Net 32 R_Msg "block" "I" ∈ wz := wz_2 (i := 185) rfl rfl
theorem zf_HD_175 : Cond.fieldLink R_HD 175 R_Msg "block" "I" ∈ wz := wz_2 (i := 186) rfl rfl
theorem zf_Fet_18 : Cond.fieldLink R_Fet 18 R_Msg "word" "I" ∈ wz := wz_2 (i := 187) rfl rfl
theorem zf_Gai_25 : Cond.fieldLink R_Gai 25 R_Msg "word" "I" ∈ wz := wz_2 (i := 188) rfl rfl
theorem zf_Net_35 : Cond.fieldLink R_Net 35 R_Msg "word" "I" ∈ wz := wz_2 (i := 189) rfl rfl
theorem zf_Home_52 : Cond.fieldLink R_Home 52 R_Msg "word" "I" ∈ wz := wz_2 (i := 190) rfl rfl
theorem zf_HD_205 : Cond.fieldLink R_HD 205 R_Msg "word" "I" ∈ wz := wz_2 (i := 191) rfl rfl
theorem zf_Gai_35 : Cond.fieldLink R_Gai 35 R_Msg "number" "I" ∈ wz := wz_2 (i := 192) rfl rfl
theorem zf_Net_38 : Cond.fieldLink R_Net 38 R_Msg "number" "I" ∈ wz := wz_2 (i := 193) rfl rfl
theorem zf_Home_103 : Cond.fieldLink R_Home 103 R_Msg "number" "I" ∈ wz := wz_2 (i := 194) rfl rfl
theorem zf_HD_208 : Cond.fieldLink R_HD 208 R_Msg "number" "I" ∈ wz := wz_2 (i := 195) rfl rfl
theorem zf_Own_44 : Cond.fieldLink R_Own 44 R_Msg "requester" "I" ∈ wz := wz_2 (i := 196) rfl rfl
theorem zf_Net_41 : Cond.fieldLink R_Net 41 R_Msg "requester" "I" ∈ wz := wz_2 (i := 197) rfl rfl
theorem zf_Line_47 : Cond.fieldLink R_Line 47 R_Msg "requester" "I" ∈ wz := wz_2 (i := 198) rfl rfl
theorem zf_HD_211 : Cond.fieldLink R_HD 211 R_Msg "requester" "I" ∈ wz := wz_2 (i := 199) rfl rfl
theorem zf_Net_18 : Cond.fieldLink R_Net 18 R_Msg "next" "LHomeDirectory$Message;" ∈ wz := wz_2 (i := 200) rfl rfl
theorem zf_Line_85 : Cond.fieldLink R_Line 85 R_Kind "PUTM" "LHomeDirectory$Kind;" ∈ wz := wz_2 (i := 218) rfl rfl
theorem zL_Kind_PUTM : Cond.laysStatic R_Kind "PUTM" "LHomeDirectory$Kind;" ∈ lw_tbl := tb_2 (i := 219) rfl
theorem zm_Line_91 : Cond.methodLink R_Line 91 y_Net_sendWord ∈ wz := wz_2 (i := 220) rfl rfl
theorem zi_Net_sendWord : Cond.instanceMethod y_Net_sendWord ∈ wz := wz_2 (i := 221) rfl rfl
theorem zs_Net_Net_sendWord : Cond.selects R_Net y_Net_sendWord y_Net_sendWord ∈ wz := wz_2 (i := 222) rfl rfl
theorem zm_Net_56 : Cond.methodLink R_Net 56 y_Net_send ∈ wz := wz_2 (i := 224) rfl rfl
theorem zm_HD_140 : Cond.methodLink R_HD 140 y_Line_fetch ∈ wz := wz_2 (i := 225) rfl rfl
theorem zi_Line_fetch : Cond.instanceMethod y_Line_fetch ∈ wz := wz_2 (i := 226) rfl rfl
theorem zs_Line_Line_fetch : Cond.selects R_Line y_Line_fetch y_Line_fetch ∈ wz := wz_2 (i := 227) rfl rfl
theorem zf_Line_58 : Cond.fieldLink R_Line 58 R_Kind "GETS" "LHomeDirectory$Kind;" ∈ wz := wz_2 (i := 229) rfl rfl
theorem zL_Kind_GETS : Cond.laysStatic R_Kind "GETS" "LHomeDirectory$Kind;" ∈ lw_tbl := tb_2 (i := 230) rfl
theorem zm_HD_143 : Cond.methodLink R_HD 143 y_Line_gain ∈ wz := wz_2 (i := 231) rfl rfl
theorem zi_Line_gain : Cond.instanceMethod y_Line_gain ∈ wz := wz_2 (i := 232) rfl rfl
theorem zs_Line_Line_gain : Cond.selects R_Line y_Line_gain y_Line_gain ∈ wz := wz_2 (i := 233) rfl rfl
theorem zf_Line_64 : Cond.fieldLink R_Line 64 R_Kind "GETM" "LHomeDirectory$Kind;" ∈ wz := wz_2 (i := 235) rfl rfl
theorem zL_Kind_GETM : Cond.laysStatic R_Kind "GETM" "LHomeDirectory$Kind;" ∈ lw_tbl := tb_2 (i := 236) rfl
theorem zm_law_36 : Cond.methodLink R_law 36 y_HD_deliver ∈ wz := wz_2 (i := 237) rfl rfl
theorem zi_HD_deliver : Cond.instanceMethod y_HD_deliver ∈ wz := wz_2 (i := 238) rfl rfl
theorem zs_HD_HD_deliver : Cond.selects R_HD y_HD_deliver y_HD_deliver ∈ wz := wz_2 (i := 239) rfl rfl
theorem zm_HD_152 : Cond.methodLink R_HD 152 y_Net_at ∈ wz := wz_3 (i := 1) rfl rfl
theorem zi_Net_at : Cond.instanceMethod y_Net_at ∈ wz := wz_3 (i := 2) rfl rfl
theorem zs_Net_Net_at : Cond.selects R_Net y_Net_at y_Net_at ∈ wz := wz_3 (i := 3) rfl rfl
theorem zm_HD_168 : Cond.methodLink R_HD 168 y_Net_behind ∈ wz := wz_3 (i := 5) rfl rfl
theorem zi_Net_behind : Cond.instanceMethod y_Net_behind ∈ wz := wz_3 (i := 6) rfl rfl
theorem zs_Net_Net_behind : Cond.selects R_Net y_Net_behind y_Net_behind ∈ wz := wz_3 (i := 7) rfl rfl
theorem zm_Net_60 : Cond.methodLink R_Net 60 y_Msg_sameWay ∈ wz := wz_3 (i := 9) rfl rfl
theorem zi_Msg_sameWay : Cond.instanceMethod y_Msg_sameWay ∈ wz := wz_3 (i := 10) rfl rfl
theorem zs_Msg_Msg_sameWay : Cond.selects R_Msg y_Msg_sameWay y_Msg_sameWay ∈ wz := wz_3 (i := 11) rfl rfl
theorem zm_HD_178 : Cond.methodLink R_HD 178 ⟨"HomeDirectory$Receiver", "take", "(LHomeDirectory$Message;)Z"⟩ ∈ wz := wz_3 (i := 14) rfl rfl
theorem zs_Home_Home_take_v : Cond.selects R_Home ⟨"HomeDirectory$Receiver", "take", "(LHomeDirectory$Message;)Z"⟩ y_Home_take ∈ wz := wz_3 (i := 18) rfl rfl
theorem zi_Home_take : Cond.instanceMethod y_Home_take ∈ wz := wz_3 (i := 20) rfl rfl
theorem zm_Home_39 : Cond.methodLink R_Home 39 ⟨"HomeDirectory$Kind", "ordinal", "()I"⟩ ∈ wz := wz_3 (i := 23) rfl rfl
theorem zM_Kind_ordinal : Cond.sameMethod R_Kind R_Enum "ordinal" "()I" ∈ wz := wz_3 (i := 24) rfl rfl
theorem zs_Kind_Enum_ordinal_v : Cond.selects R_Kind ⟨"HomeDirectory$Kind", "ordinal", "()I"⟩ y_Enum_ordinal ∈ wz := wz_3 (i := 26) rfl rfl
theorem zi_Enum_ordinal : Cond.instanceMethod y_Enum_ordinal ∈ wz := wz_3 (i := 27) rfl rfl
theorem zm_Home_45 : Cond.methodLink R_Home 45 y_Home_shares ∈ wz := wz_3 (i := 29) rfl rfl
theorem zi_Home_shares : Cond.instanceMethod y_Home_shares ∈ wz := wz_3 (i := 31) rfl rfl
theorem zf_Home_68 : Cond.fieldLink R_Home 68 R_Std "SD" "LHomeDirectory$Standing;" ∈ wz := wz_3 (i := 33) rfl rfl
theorem zL_Std_SD : Cond.laysStatic R_Std "SD" "LHomeDirectory$Standing;" ∈ lw_tbl := tb_3 (i := 34) rfl
theorem zf_Home_71 : Cond.fieldLink R_Home 71 R_Std "M" "LHomeDirectory$Standing;" ∈ wz := wz_3 (i := 35) rfl rfl
theorem zL_Std_M : Cond.laysStatic R_Std "M" "LHomeDirectory$Standing;" ∈ lw_tbl := tb_3 (i := 36) rfl
theorem zf_Home_74 : Cond.fieldLink R_Home 74 R_Kind "FWDS" "LHomeDirectory$Kind;" ∈ wz := wz_3 (i := 37) rfl rfl
theorem zL_Kind_FWDS : Cond.laysStatic R_Kind "FWDS" "LHomeDirectory$Kind;" ∈ lw_tbl := tb_3 (i := 38) rfl
theorem zm_Home_77 : Cond.methodLink R_Home 77 y_Net_sendFor ∈ wz := wz_3 (i := 39) rfl rfl
theorem zi_Net_sendFor : Cond.instanceMethod y_Net_sendFor ∈ wz := wz_3 (i := 40) rfl rfl
theorem zs_Net_Net_sendFor : Cond.selects R_Net y_Net_sendFor y_Net_sendFor ∈ wz := wz_3 (i := 41) rfl rfl
theorem zf_Home_83 : Cond.fieldLink R_Home 83 R_Kind "DATA" "LHomeDirectory$Kind;" ∈ wz := wz_3 (i := 43) rfl rfl
theorem zL_Kind_DATA : Cond.laysStatic R_Kind "DATA" "LHomeDirectory$Kind;" ∈ lw_tbl := tb_3 (i := 44) rfl
theorem zm_Home_86 : Cond.methodLink R_Home 86 y_Net_sendWord ∈ wz := wz_3 (i := 45) rfl rfl
theorem zf_Home_61 : Cond.fieldLink R_Home 61 R_Std "S" "LHomeDirectory$Standing;" ∈ wz := wz_3 (i := 46) rfl rfl
theorem zL_Std_S : Cond.laysStatic R_Std "S" "LHomeDirectory$Standing;" ∈ lw_tbl := tb_3 (i := 47) rfl
theorem zm_Home_49 : Cond.methodLink R_Home 49 y_Home_gives ∈ wz := wz_3 (i := 48) rfl rfl
theorem zi_Home_gives : Cond.instanceMethod y_Home_gives ∈ wz := wz_3 (i := 50) rfl rfl
theorem zf_Home_90 : Cond.fieldLink R_Home 90 R_Kind "FWDM" "LHomeDirectory$Kind;" ∈ wz := wz_3 (i := 52) rfl rfl
theorem zL_Kind_FWDM : Cond.laysStatic R_Kind "FWDM" "LHomeDirectory$Kind;" ∈ lw_tbl := tb_3 (i := 53) rfl
theorem zm_Home_93 : Cond.methodLink R_Home 93 y_Net_send ∈ wz := wz_3 (i := 54) rfl rfl
theorem zm_Home_97 : Cond.methodLink R_Home 97 y_Int_bitCount ∈ wz := wz_3 (i := 55) rfl rfl
theorem zS_Int_bitCount : Cond.static y_Int_bitCount ∈ wz := wz_3 (i := 56) rfl rfl
theorem zC_Int_265 : Cond.constant R_Int 265 (1431655765 : Int32) ∈ wz := wz_3 (i := 58) rfl rfl
theorem zC_Int_266 : Cond.constant R_Int 266 (858993459 : Int32) ∈ wz := wz_3 (i := 59) rfl rfl
theorem zC_Int_267 : Cond.constant R_Int 267 (252645135 : Int32) ∈ wz := wz_3 (i := 60) rfl rfl
theorem zf_Home_106 : Cond.fieldLink R_Home 106 R_Kind "INV" "LHomeDirectory$Kind;" ∈ wz := wz_3 (i := 61) rfl rfl
theorem zL_Kind_INV : Cond.laysStatic R_Kind "INV" "LHomeDirectory$Kind;" ∈ lw_tbl := tb_3 (i := 62) rfl
theorem zm_Home_109 : Cond.methodLink R_Home 109 y_Int_numberOfTrailingZeros ∈ wz := wz_3 (i := 63) rfl rfl
theorem zS_Int_numberOfTrailingZeros : Cond.static y_Int_numberOfTrailingZeros ∈ wz := wz_3 (i := 64) rfl rfl
theorem zC_Int_264 : Cond.constant R_Int 264 (65536 : Int32) ∈ wz := wz_3 (i := 66) rfl rfl
theorem zm_Home_64 : Cond.methodLink R_Home 64 y_Home_takesBack ∈ wz := wz_3 (i := 67) rfl rfl
theorem zi_Home_takesBack : Cond.instanceMethod y_Home_takesBack ∈ wz := wz_3 (i := 69) rfl rfl
theorem zf_Home_112 : Cond.fieldLink R_Home 112 R_Kind "PUTM" "LHomeDirectory$Kind;" ∈ wz := wz_3 (i := 71) rfl rfl
theorem zf_Home_115 : Cond.fieldLink R_Home 115 R_Kind "PUTACK" "LHomeDirectory$Kind;" ∈ wz := wz_3 (i := 72) rfl rfl
theorem zL_Kind_PUTACK : Cond.laysStatic R_Kind "PUTACK" "LHomeDirectory$Kind;" ∈ lw_tbl := tb_3 (i := 73) rfl
theorem zs_Line_Line_take_v : Cond.selects R_Line ⟨"HomeDirectory$Receiver", "take", "(LHomeDirectory$Message;)Z"⟩ y_Line_take ∈ wz := wz_3 (i := 75) rfl rfl
theorem zi_Line_take : Cond.instanceMethod y_Line_take ∈ wz := wz_3 (i := 77) rfl rfl
theorem zm_Line_35 : Cond.methodLink R_Line 35 ⟨"HomeDirectory$Mode", "take", "(LHomeDirectory$Line;LHomeDirectory$Message;)Z"⟩ ∈ wz := wz_3 (i := 80) rfl rfl
theorem zM_Mode_take : Cond.sameMethod R_Mode R_Mode "take" "(LHomeDirectory$Line;LHomeDirectory$Message;)Z" ∈ wz := wz_3 (i := 82) rfl rfl
theorem zs_Emp_Emp_take_v : Cond.selects R_Emp ⟨"HomeDirectory$Mode", "take", "(LHomeDirectory$Line;LHomeDirectory$Message;)Z"⟩ y_Emp_take ∈ wz := wz_3 (i := 83) rfl rfl
theorem zi_Emp_take : Cond.instanceMethod y_Emp_take ∈ wz := wz_3 (i := 84) rfl rfl
theorem zf_Emp_13 : Cond.fieldLink R_Emp 13 R_Kind "PUTACK" "LHomeDirectory$Kind;" ∈ wz := wz_3 (i := 86) rfl rfl
theorem zm_Emp_18 : Cond.methodLink R_Emp 18 y_Line_release ∈ wz := wz_3 (i := 87) rfl rfl
theorem zi_Line_release : Cond.instanceMethod y_Line_release ∈ wz := wz_3 (i := 88) rfl rfl
theorem zs_Line_Line_release : Cond.selects R_Line y_Line_release y_Line_release ∈ wz := wz_3 (i := 89) rfl rfl
theorem zs_Fet_Fet_take_v : Cond.selects R_Fet ⟨"HomeDirectory$Mode", "take", "(LHomeDirectory$Line;LHomeDirectory$Message;)Z"⟩ y_Fet_take ∈ wz := wz_3 (i := 91) rfl rfl
theorem zi_Fet_take : Cond.instanceMethod y_Fet_take ∈ wz := wz_3 (i := 92) rfl rfl
theorem zf_Fet_13 : Cond.fieldLink R_Fet 13 R_Kind "DATA" "LHomeDirectory$Kind;" ∈ wz := wz_3 (i := 94) rfl rfl
theorem zs_Gai_Gai_take_v : Cond.selects R_Gai ⟨"HomeDirectory$Mode", "take", "(LHomeDirectory$Line;LHomeDirectory$Message;)Z"⟩ y_Gai_take ∈ wz := wz_3 (i := 95) rfl rfl
theorem zi_Gai_take : Cond.instanceMethod y_Gai_take ∈ wz := wz_3 (i := 96) rfl rfl
theorem zm_Gai_19 : Cond.methodLink R_Gai 19 ⟨"HomeDirectory$Kind", "ordinal", "()I"⟩ ∈ wz := wz_3 (i := 98) rfl rfl
theorem zm_Gai_60 : Cond.methodLink R_Gai 60 y_Line_answer ∈ wz := wz_3 (i := 99) rfl rfl
theorem zi_Line_answer : Cond.instanceMethod y_Line_answer ∈ wz := wz_3 (i := 100) rfl rfl
theorem zs_Line_Line_answer : Cond.selects R_Line y_Line_answer y_Line_answer ∈ wz := wz_3 (i := 101) rfl rfl
theorem zf_Line_41 : Cond.fieldLink R_Line 41 R_Kind "ACK" "LHomeDirectory$Kind;" ∈ wz := wz_3 (i := 103) rfl rfl
theorem zL_Kind_ACK : Cond.laysStatic R_Kind "ACK" "LHomeDirectory$Kind;" ∈ lw_tbl := tb_3 (i := 104) rfl
theorem zs_Own_Own_take_v : Cond.selects R_Own ⟨"HomeDirectory$Mode", "take", "(LHomeDirectory$Line;LHomeDirectory$Message;)Z"⟩ y_Own_take ∈ wz := wz_3 (i := 105) rfl rfl
theorem zi_Own_take : Cond.instanceMethod y_Own_take ∈ wz := wz_3 (i := 106) rfl rfl
theorem zm_Own_27 : Cond.methodLink R_Own 27 ⟨"HomeDirectory$Kind", "ordinal", "()I"⟩ ∈ wz := wz_3 (i := 108) rfl rfl
theorem zf_Own_37 : Cond.fieldLink R_Own 37 R_Kind "DATA" "LHomeDirectory$Kind;" ∈ wz := wz_3 (i := 109) rfl rfl
theorem zm_Own_53 : Cond.methodLink R_Own 53 y_Net_sendWord ∈ wz := wz_3 (i := 110) rfl rfl
theorem zf_Own_74 : Cond.fieldLink R_Own 74 R_Kind "PUTACK" "LHomeDirectory$Kind;" ∈ wz := wz_3 (i := 111) rfl rfl
theorem zm_Own_77 : Cond.methodLink R_Own 77 y_Line_release ∈ wz := wz_3 (i := 112) rfl rfl
theorem zs_Sha_Sha_take_v : Cond.selects R_Sha ⟨"HomeDirectory$Mode", "take", "(LHomeDirectory$Line;LHomeDirectory$Message;)Z"⟩ y_Sha_take ∈ wz := wz_3 (i := 113) rfl rfl
theorem zi_Sha_take : Cond.instanceMethod y_Sha_take ∈ wz := wz_3 (i := 114) rfl rfl
theorem zf_Sha_13 : Cond.fieldLink R_Sha 13 R_Kind "PUTACK" "LHomeDirectory$Kind;" ∈ wz := wz_3 (i := 116) rfl rfl
theorem zm_Sha_18 : Cond.methodLink R_Sha 18 y_Line_release ∈ wz := wz_3 (i := 117) rfl rfl
theorem zf_Sha_24 : Cond.fieldLink R_Sha 24 R_Kind "INV" "LHomeDirectory$Kind;" ∈ wz := wz_3 (i := 118) rfl rfl
theorem zm_Sha_27 : Cond.methodLink R_Sha 27 y_Line_answer ∈ wz := wz_3 (i := 119) rfl rfl
theorem zm_HD_183 : Cond.methodLink R_HD 183 y_HD_wake ∈ wz := wz_3 (i := 120) rfl rfl
theorem zi_HD_wake : Cond.instanceMethod y_HD_wake ∈ wz := wz_3 (i := 122) rfl rfl
theorem zf_HD_194 : Cond.fieldLink R_HD 194 R_Kind "PUTACK" "LHomeDirectory$Kind;" ∈ wz := wz_3 (i := 124) rfl rfl
theorem zm_HD_187 : Cond.methodLink R_HD 187 y_Net_remove ∈ wz := wz_3 (i := 125) rfl rfl
theorem zi_Net_remove : Cond.instanceMethod y_Net_remove ∈ wz := wz_3 (i := 126) rfl rfl
theorem zs_Net_Net_remove : Cond.selects R_Net y_Net_remove y_Net_remove ∈ wz := wz_3 (i := 127) rfl rfl
theorem zm_law_40 : Cond.methodLink R_law 40 y_HD_messages ∈ wz := wz_3 (i := 129) rfl rfl
theorem zi_HD_messages : Cond.instanceMethod y_HD_messages ∈ wz := wz_3 (i := 130) rfl rfl
theorem zs_HD_HD_messages : Cond.selects R_HD y_HD_messages y_HD_messages ∈ wz := wz_3 (i := 131) rfl rfl
theorem zm_law_45 : Cond.methodLink R_law 45 y_HD_message ∈ wz := wz_3 (i := 133) rfl rfl
theorem zi_HD_message : Cond.instanceMethod y_HD_message ∈ wz := wz_3 (i := 134) rfl rfl
theorem zs_HD_HD_message : Cond.selects R_HD y_HD_message y_HD_message ∈ wz := wz_3 (i := 135) rfl rfl
theorem zm_HD_198 : Cond.methodLink R_HD 198 ⟨"HomeDirectory$Kind", "ordinal", "()I"⟩ ∈ wz := wz_3 (i := 137) rfl rfl
theorem zm_law_50 : Cond.methodLink R_law 50 y_HD_line ∈ wz := wz_3 (i := 138) rfl rfl
theorem zi_HD_line : Cond.instanceMethod y_HD_line ∈ wz := wz_3 (i := 139) rfl rfl
theorem zs_HD_HD_line : Cond.selects R_HD y_HD_line y_HD_line ∈ wz := wz_3 (i := 140) rfl rfl
theorem zm_HD_214 : Cond.methodLink R_HD 214 y_HD_lineOf ∈ wz := wz_3 (i := 142) rfl rfl
theorem zi_HD_lineOf : Cond.instanceMethod y_HD_lineOf ∈ wz := wz_3 (i := 144) rfl rfl
theorem zm_law_54 : Cond.methodLink R_law 54 y_HD_word ∈ wz := wz_3 (i := 146) rfl rfl
theorem zi_HD_word : Cond.instanceMethod y_HD_word ∈ wz := wz_3 (i := 147) rfl rfl
theorem zs_HD_HD_word : Cond.selects R_HD y_HD_word y_HD_word ∈ wz := wz_3 (i := 148) rfl rfl
theorem zm_law_58 : Cond.methodLink R_law 58 y_HD_home ∈ wz := wz_3 (i := 150) rfl rfl
theorem zi_HD_home : Cond.instanceMethod y_HD_home ∈ wz := wz_3 (i := 151) rfl rfl
theorem zs_HD_HD_home : Cond.selects R_HD y_HD_home y_HD_home ∈ wz := wz_3 (i := 152) rfl rfl
theorem zm_HD_231 : Cond.methodLink R_HD 231 ⟨"HomeDirectory$Standing", "ordinal", "()I"⟩ ∈ wz := wz_3 (i := 154) rfl rfl
theorem zM_Std_ordinal : Cond.sameMethod R_Std R_Enum "ordinal" "()I" ∈ wz := wz_3 (i := 155) rfl rfl
theorem zs_Std_Enum_ordinal_v : Cond.selects R_Std ⟨"HomeDirectory$Standing", "ordinal", "()I"⟩ y_Enum_ordinal ∈ wz := wz_3 (i := 156) rfl rfl
theorem zm_law_62 : Cond.methodLink R_law 62 y_HD_memory ∈ wz := wz_3 (i := 157) rfl rfl
theorem zi_HD_memory : Cond.instanceMethod y_HD_memory ∈ wz := wz_3 (i := 158) rfl rfl
theorem zs_HD_HD_memory : Cond.selects R_HD y_HD_memory y_HD_memory ∈ wz := wz_3 (i := 159) rfl rfl
theorem zm_law_66 : Cond.methodLink R_law 66 y_HD_accumulator ∈ wz := wz_3 (i := 161) rfl rfl
theorem zi_HD_accumulator : Cond.instanceMethod y_HD_accumulator ∈ wz := wz_3 (i := 162) rfl rfl
theorem zs_HD_HD_accumulator : Cond.selects R_HD y_HD_accumulator y_HD_accumulator ∈ wz := wz_3 (i := 163) rfl rfl
theorem zm_law_70 : Cond.methodLink R_law 70 y_HD_place ∈ wz := wz_3 (i := 165) rfl rfl
theorem zi_HD_place : Cond.instanceMethod y_HD_place ∈ wz := wz_3 (i := 166) rfl rfl
theorem zs_HD_HD_place : Cond.selects R_HD y_HD_place y_HD_place ∈ wz := wz_3 (i := 167) rfl rfl
theorem zm_law_74 : Cond.methodLink R_law 74 y_HD_sent ∈ wz := wz_3 (i := 169) rfl rfl
theorem zi_HD_sent : Cond.instanceMethod y_HD_sent ∈ wz := wz_3 (i := 170) rfl rfl
theorem zs_HD_HD_sent : Cond.selects R_HD y_HD_sent y_HD_sent ∈ wz := wz_3 (i := 171) rfl rfl
theorem zm_law_78 : Cond.methodLink R_law 78 y_HD_performed ∈ wz := wz_3 (i := 173) rfl rfl
theorem zi_HD_performed : Cond.instanceMethod y_HD_performed ∈ wz := wz_3 (i := 174) rfl rfl
theorem zs_HD_HD_performed : Cond.selects R_HD y_HD_performed y_HD_performed ∈ wz := wz_3 (i := 175) rfl rfl
theorem zm_law_9 : Cond.methodLink R_law 9 y_law_cell ∈ wz := wz_3 (i := 177) rfl rfl
theorem zS_law_cell : Cond.static y_law_cell ∈ wz := wz_3 (i := 178) rfl rfl
theorem zc_law_18 : Cond.classLink R_law 18 R_Tw ∈ wz := wz_3 (i := 180) rfl rfl
theorem zI_Tw : Cond.instantiable R_Tw 27 ∈ wz := wz_3 (i := 181) rfl rfl
theorem zm_law_20 : Cond.methodLink R_law 20 y_Tw_init ∈ wz := wz_3 (i := 182) rfl rfl
theorem zi_Tw_init : Cond.instanceMethod y_Tw_init ∈ wz := wz_3 (i := 183) rfl rfl
theorem zm_Tw_1 : Cond.methodLink R_Tw 1 y_Obj_init ∈ wz := wz_3 (i := 185) rfl rfl
theorem zf_Tw_74 : Cond.fieldLink R_Tw 74 R_Tw "cores" "I" ∈ wz := wz_3 (i := 186) rfl rfl
theorem zf_Tw_78 : Cond.fieldLink R_Tw 78 R_Tw "most" "I" ∈ wz := wz_3 (i := 187) rfl rfl
theorem zf_Tw_7 : Cond.fieldLink R_Tw 7 R_Tw "a" "[I" ∈ wz := wz_3 (i := 188) rfl rfl
theorem zf_Tw_13 : Cond.fieldLink R_Tw 13 R_Tw "ops" "[I" ∈ wz := wz_3 (i := 189) rfl rfl
theorem zf_Tw_16 : Cond.fieldLink R_Tw 16 R_Tw "xs" "[I" ∈ wz := wz_3 (i := 190) rfl rfl
theorem zf_Tw_19 : Cond.fieldLink R_Tw 19 R_Tw "size" "[I" ∈ wz := wz_3 (i := 191) rfl rfl
theorem zf_Tw_22 : Cond.fieldLink R_Tw 22 R_Tw "next" "[I" ∈ wz := wz_3 (i := 192) rfl rfl
theorem zf_Tw_25 : Cond.fieldLink R_Tw 25 R_Tw "waits" "[I" ∈ wz := wz_3 (i := 193) rfl rfl
theorem zf_Tw_28 : Cond.fieldLink R_Tw 28 R_Tw "state" "[I" ∈ wz := wz_3 (i := 194) rfl rfl
theorem zf_Tw_31 : Cond.fieldLink R_Tw 31 R_Tw "held" "[I" ∈ wz := wz_3 (i := 195) rfl rfl
theorem zf_Tw_34 : Cond.fieldLink R_Tw 34 R_Tw "missing" "[I" ∈ wz := wz_3 (i := 196) rfl rfl
theorem zf_Tw_37 : Cond.fieldLink R_Tw 37 R_Tw "used" "[I" ∈ wz := wz_3 (i := 197) rfl rfl
theorem zf_Tw_101 : Cond.fieldLink R_Tw 101 R_Tw "clock" "I" ∈ wz := wz_3 (i := 198) rfl rfl
theorem zf_Tw_40 : Cond.fieldLink R_Tw 40 R_Tw "stored" "[I" ∈ wz := wz_3 (i := 199) rfl rfl
theorem zf_Tw_43 : Cond.fieldLink R_Tw 43 R_Tw "kept" "[I" ∈ wz := wz_3 (i := 200) rfl rfl
theorem zf_Tw_46 : Cond.fieldLink R_Tw 46 R_Tw "owner" "[I" ∈ wz := wz_3 (i := 201) rfl rfl
theorem zf_Tw_49 : Cond.fieldLink R_Tw 49 R_Tw "shares" "[Z" ∈ wz := wz_3 (i := 202) rfl rfl
theorem zf_Tw_91 : Cond.fieldLink R_Tw 91 R_Tw "many" "I" ∈ wz := wz_3 (i := 203) rfl rfl
theorem zf_Tw_94 : Cond.fieldLink R_Tw 94 R_Tw "total" "I" ∈ wz := wz_3 (i := 204) rfl rfl
theorem zf_Tw_104 : Cond.fieldLink R_Tw 104 R_Tw "done" "I" ∈ wz := wz_3 (i := 205) rfl rfl
theorem zf_Tw_53 : Cond.fieldLink R_Tw 53 R_Tw "kind" "[I" ∈ wz := wz_3 (i := 206) rfl rfl
theorem zf_Tw_56 : Cond.fieldLink R_Tw 56 R_Tw "from" "[I" ∈ wz := wz_3 (i := 207) rfl rfl
theorem zf_Tw_59 : Cond.fieldLink R_Tw 59 R_Tw "to" "[I" ∈ wz := wz_3 (i := 208) rfl rfl
theorem zf_Tw_62 : Cond.fieldLink R_Tw 62 R_Tw "block" "[I" ∈ wz := wz_3 (i := 209) rfl rfl
theorem zf_Tw_65 : Cond.fieldLink R_Tw 65 R_Tw "value" "[I" ∈ wz := wz_3 (i := 210) rfl rfl
theorem zf_Tw_68 : Cond.fieldLink R_Tw 68 R_Tw "number" "[I" ∈ wz := wz_3 (i := 211) rfl rfl
theorem zf_Tw_71 : Cond.fieldLink R_Tw 71 R_Tw "asker" "[I" ∈ wz := wz_3 (i := 212) rfl rfl
theorem zA_boolean : Cond.arrayClass .boolean ∈ wz := wz_4 (i := 28) rfl rfl
theorem zm_law_25 : Cond.methodLink R_law 25 y_Tw_code ∈ wz := wz_4 (i := 29) rfl rfl
theorem zi_Tw_code : Cond.instanceMethod y_Tw_code ∈ wz := wz_4 (i := 30) rfl rfl
theorem zs_Tw_Tw_code : Cond.selects R_Tw y_Tw_code y_Tw_code ∈ wz := wz_4 (i := 31) rfl rfl
theorem zm_Tw_81 : Cond.methodLink R_Tw 81 y_Tw_isCore ∈ wz := wz_4 (i := 33) rfl rfl
theorem zi_Tw_isCore : Cond.instanceMethod y_Tw_isCore ∈ wz := wz_4 (i := 35) rfl rfl
theorem zm_Tw_85 : Cond.methodLink R_Tw 85 y_Tw_access ∈ wz := wz_4 (i := 37) rfl rfl
theorem zS_Tw_access : Cond.static y_Tw_access ∈ wz := wz_4 (i := 38) rfl rfl
theorem zm_Tw_88 : Cond.methodLink R_Tw 88 y_Tw_isBlock ∈ wz := wz_4 (i := 40) rfl rfl
theorem zS_Tw_isBlock : Cond.static y_Tw_isBlock ∈ wz := wz_4 (i := 41) rfl rfl
theorem zm_law_30 : Cond.methodLink R_law 30 y_Tw_go ∈ wz := wz_4 (i := 43) rfl rfl
theorem zi_Tw_go : Cond.instanceMethod y_Tw_go ∈ wz := wz_4 (i := 44) rfl rfl
theorem zs_Tw_Tw_go : Cond.selects R_Tw y_Tw_go y_Tw_go ∈ wz := wz_4 (i := 45) rfl rfl
theorem zm_law_35 : Cond.methodLink R_law 35 y_Tw_step ∈ wz := wz_4 (i := 47) rfl rfl
theorem zi_Tw_step : Cond.instanceMethod y_Tw_step ∈ wz := wz_4 (i := 48) rfl rfl
theorem zs_Tw_Tw_step : Cond.selects R_Tw y_Tw_step y_Tw_step ∈ wz := wz_4 (i := 49) rfl rfl
theorem zm_Tw_107 : Cond.methodLink R_Tw 107 y_Tw_plain ∈ wz := wz_4 (i := 51) rfl rfl
theorem zi_Tw_plain : Cond.instanceMethod y_Tw_plain ∈ wz := wz_4 (i := 53) rfl rfl
theorem zm_Tw_111 : Cond.methodLink R_Tw 111 y_Tw_perform ∈ wz := wz_4 (i := 55) rfl rfl
theorem zi_Tw_perform : Cond.instanceMethod y_Tw_perform ∈ wz := wz_4 (i := 57) rfl rfl
theorem zm_Tw_115 : Cond.methodLink R_Tw 115 y_Tw_ask ∈ wz := wz_4 (i := 59) rfl rfl
theorem zi_Tw_ask : Cond.instanceMethod y_Tw_ask ∈ wz := wz_4 (i := 61) rfl rfl
theorem zm_Tw_97 : Cond.methodLink R_Tw 97 y_Tw_send ∈ wz := wz_4 (i := 63) rfl rfl
theorem zi_Tw_send : Cond.instanceMethod y_Tw_send ∈ wz := wz_4 (i := 65) rfl rfl
theorem zm_Tw_119 : Cond.methodLink R_Tw 119 y_Tw_inUse ∈ wz := wz_4 (i := 67) rfl rfl
theorem zi_Tw_inUse : Cond.instanceMethod y_Tw_inUse ∈ wz := wz_4 (i := 69) rfl rfl
theorem zm_Tw_123 : Cond.methodLink R_Tw 123 y_Tw_replace ∈ wz := wz_4 (i := 71) rfl rfl
theorem zi_Tw_replace : Cond.instanceMethod y_Tw_replace ∈ wz := wz_4 (i := 73) rfl rfl
theorem zm_law_39 : Cond.methodLink R_law 39 y_Tw_deliver ∈ wz := wz_4 (i := 75) rfl rfl
theorem zi_Tw_deliver : Cond.instanceMethod y_Tw_deliver ∈ wz := wz_4 (i := 76) rfl rfl
theorem zs_Tw_Tw_deliver : Cond.selects R_Tw y_Tw_deliver y_Tw_deliver ∈ wz := wz_4 (i := 77) rfl rfl
theorem zm_Tw_126 : Cond.methodLink R_Tw 126 y_Tw_behind ∈ wz := wz_4 (i := 79) rfl rfl
theorem zi_Tw_behind : Cond.instanceMethod y_Tw_behind ∈ wz := wz_4 (i := 81) rfl rfl
theorem zm_Tw_129 : Cond.methodLink R_Tw 129 y_Tw_stalls ∈ wz := wz_4 (i := 83) rfl rfl
theorem zi_Tw_stalls : Cond.instanceMethod y_Tw_stalls ∈ wz := wz_4 (i := 85) rfl rfl
theorem zm_Tw_132 : Cond.methodLink R_Tw 132 y_Tw_remove ∈ wz := wz_4 (i := 87) rfl rfl
theorem zi_Tw_remove : Cond.instanceMethod y_Tw_remove ∈ wz := wz_4 (i := 89) rfl rfl
theorem zm_Tw_135 : Cond.methodLink R_Tw 135 y_Tw_atHome ∈ wz := wz_4 (i := 91) rfl rfl
theorem zi_Tw_atHome : Cond.instanceMethod y_Tw_atHome ∈ wz := wz_4 (i := 93) rfl rfl
theorem zm_Tw_151 : Cond.methodLink R_Tw 151 y_Tw_gets ∈ wz := wz_4 (i := 95) rfl rfl
theorem zi_Tw_gets : Cond.instanceMethod y_Tw_gets ∈ wz := wz_4 (i := 97) rfl rfl
theorem zm_Tw_147 : Cond.methodLink R_Tw 147 y_Tw_data ∈ wz := wz_4 (i := 99) rfl rfl
theorem zi_Tw_data : Cond.instanceMethod y_Tw_data ∈ wz := wz_4 (i := 101) rfl rfl
theorem zm_Tw_154 : Cond.methodLink R_Tw 154 y_Tw_getm ∈ wz := wz_4 (i := 103) rfl rfl
theorem zi_Tw_getm : Cond.instanceMethod y_Tw_getm ∈ wz := wz_4 (i := 105) rfl rfl
theorem zm_Tw_157 : Cond.methodLink R_Tw 157 y_Tw_sharers ∈ wz := wz_4 (i := 107) rfl rfl
theorem zi_Tw_sharers : Cond.instanceMethod y_Tw_sharers ∈ wz := wz_4 (i := 109) rfl rfl
theorem zm_Tw_139 : Cond.methodLink R_Tw 139 y_Tw_atCore ∈ wz := wz_4 (i := 111) rfl rfl
theorem zi_Tw_atCore : Cond.instanceMethod y_Tw_atCore ∈ wz := wz_4 (i := 113) rfl rfl
theorem zm_Tw_143 : Cond.methodLink R_Tw 143 y_Tw_finish ∈ wz := wz_4 (i := 115) rfl rfl
theorem zi_Tw_finish : Cond.instanceMethod y_Tw_finish ∈ wz := wz_4 (i := 117) rfl rfl
theorem zm_law_44 : Cond.methodLink R_law 44 y_Tw_messages ∈ wz := wz_4 (i := 119) rfl rfl
theorem zi_Tw_messages : Cond.instanceMethod y_Tw_messages ∈ wz := wz_4 (i := 120) rfl rfl
theorem zs_Tw_Tw_messages : Cond.selects R_Tw y_Tw_messages y_Tw_messages ∈ wz := wz_4 (i := 121) rfl rfl
theorem zm_law_49 : Cond.methodLink R_law 49 y_Tw_message ∈ wz := wz_4 (i := 123) rfl rfl
theorem zi_Tw_message : Cond.instanceMethod y_Tw_message ∈ wz := wz_4 (i := 124) rfl rfl
theorem zs_Tw_Tw_message : Cond.selects R_Tw y_Tw_message y_Tw_message ∈ wz := wz_4 (i := 125) rfl rfl
theorem zm_law_53 : Cond.methodLink R_law 53 y_Tw_line ∈ wz := wz_4 (i := 127) rfl rfl
theorem zi_Tw_line : Cond.instanceMethod y_Tw_line ∈ wz := wz_4 (i := 128) rfl rfl
theorem zs_Tw_Tw_line : Cond.selects R_Tw y_Tw_line y_Tw_line ∈ wz := wz_4 (i := 129) rfl rfl
theorem zm_law_57 : Cond.methodLink R_law 57 y_Tw_word ∈ wz := wz_4 (i := 131) rfl rfl
theorem zi_Tw_word : Cond.instanceMethod y_Tw_word ∈ wz := wz_4 (i := 132) rfl rfl
theorem zs_Tw_Tw_word : Cond.selects R_Tw y_Tw_word y_Tw_word ∈ wz := wz_4 (i := 133) rfl rfl
theorem zm_law_61 : Cond.methodLink R_law 61 y_Tw_home ∈ wz := wz_4 (i := 135) rfl rfl
theorem zi_Tw_home : Cond.instanceMethod y_Tw_home ∈ wz := wz_4 (i := 136) rfl rfl
theorem zs_Tw_Tw_home : Cond.selects R_Tw y_Tw_home y_Tw_home ∈ wz := wz_4 (i := 137) rfl rfl
theorem zm_law_65 : Cond.methodLink R_law 65 y_Tw_memory ∈ wz := wz_4 (i := 139) rfl rfl
theorem zi_Tw_memory : Cond.instanceMethod y_Tw_memory ∈ wz := wz_4 (i := 140) rfl rfl
theorem zs_Tw_Tw_memory : Cond.selects R_Tw y_Tw_memory y_Tw_memory ∈ wz := wz_4 (i := 141) rfl rfl
theorem zm_law_69 : Cond.methodLink R_law 69 y_Tw_accumulator ∈ wz := wz_4 (i := 143) rfl rfl
theorem zi_Tw_accumulator : Cond.instanceMethod y_Tw_accumulator ∈ wz := wz_4 (i := 144) rfl rfl
theorem zs_Tw_Tw_accumulator : Cond.selects R_Tw y_Tw_accumulator y_Tw_accumulator ∈ wz := wz_4 (i := 145) rfl rfl
theorem zm_law_73 : Cond.methodLink R_law 73 y_Tw_place ∈ wz := wz_4 (i := 147) rfl rfl
theorem zi_Tw_place : Cond.instanceMethod y_Tw_place ∈ wz := wz_4 (i := 148) rfl rfl
theorem zs_Tw_Tw_place : Cond.selects R_Tw y_Tw_place y_Tw_place ∈ wz := wz_4 (i := 149) rfl rfl
theorem zm_law_77 : Cond.methodLink R_law 77 y_Tw_sent ∈ wz := wz_4 (i := 151) rfl rfl
theorem zi_Tw_sent : Cond.instanceMethod y_Tw_sent ∈ wz := wz_4 (i := 152) rfl rfl
theorem zs_Tw_Tw_sent : Cond.selects R_Tw y_Tw_sent y_Tw_sent ∈ wz := wz_4 (i := 153) rfl rfl
theorem zm_law_81 : Cond.methodLink R_law 81 y_Tw_performed ∈ wz := wz_4 (i := 155) rfl rfl
theorem zi_Tw_performed : Cond.instanceMethod y_Tw_performed ∈ wz := wz_4 (i := 156) rfl rfl
theorem zs_Tw_Tw_performed : Cond.selects R_Tw y_Tw_performed y_Tw_performed ∈ wz := wz_4 (i := 157) rfl rfl
theorem zf_Enum_7 : Cond.fieldLink R_Enum 7 R_Enum "ordinal" "I" ∈ wz := wz_4 (i := 162) rfl rfl
theorem zs_HD_HD_core : Cond.selects R_HD y_HD_core y_HD_core ∈ wz := wz_s (i := 0) rfl rfl
theorem zs_HD_HD_access : Cond.selects R_HD y_HD_access y_HD_access ∈ wz := wz_s (i := 1) rfl rfl
theorem zs_HD_HD_perform : Cond.selects R_HD y_HD_perform y_HD_perform ∈ wz := wz_s (i := 2) rfl rfl
theorem zs_Home_Home_shares : Cond.selects R_Home y_Home_shares y_Home_shares ∈ wz := wz_s (i := 3) rfl rfl
theorem zs_Home_Home_gives : Cond.selects R_Home y_Home_gives y_Home_gives ∈ wz := wz_s (i := 4) rfl rfl
theorem zs_Home_Home_takesBack : Cond.selects R_Home y_Home_takesBack y_Home_takesBack ∈ wz := wz_s (i := 5) rfl rfl
theorem zs_HD_HD_wake : Cond.selects R_HD y_HD_wake y_HD_wake ∈ wz := wz_s (i := 6) rfl rfl
theorem zs_HD_HD_lineOf : Cond.selects R_HD y_HD_lineOf y_HD_lineOf ∈ wz := wz_s (i := 7) rfl rfl
theorem zs_Tw_Tw_isCore : Cond.selects R_Tw y_Tw_isCore y_Tw_isCore ∈ wz := wz_s (i := 8) rfl rfl
theorem zs_Tw_Tw_plain : Cond.selects R_Tw y_Tw_plain y_Tw_plain ∈ wz := wz_s (i := 9) rfl rfl
theorem zs_Tw_Tw_perform : Cond.selects R_Tw y_Tw_perform y_Tw_perform ∈ wz := wz_s (i := 10) rfl rfl
theorem zs_Tw_Tw_ask : Cond.selects R_Tw y_Tw_ask y_Tw_ask ∈ wz := wz_s (i := 11) rfl rfl
theorem zs_Tw_Tw_send : Cond.selects R_Tw y_Tw_send y_Tw_send ∈ wz := wz_s (i := 12) rfl rfl
theorem zs_Tw_Tw_inUse : Cond.selects R_Tw y_Tw_inUse y_Tw_inUse ∈ wz := wz_s (i := 13) rfl rfl
theorem zs_Tw_Tw_replace : Cond.selects R_Tw y_Tw_replace y_Tw_replace ∈ wz := wz_s (i := 14) rfl rfl
theorem zs_Tw_Tw_behind : Cond.selects R_Tw y_Tw_behind y_Tw_behind ∈ wz := wz_s (i := 15) rfl rfl
theorem zs_Tw_Tw_stalls : Cond.selects R_Tw y_Tw_stalls y_Tw_stalls ∈ wz := wz_s (i := 16) rfl rfl
theorem zs_Tw_Tw_remove : Cond.selects R_Tw y_Tw_remove y_Tw_remove ∈ wz := wz_s (i := 17) rfl rfl
theorem zs_Tw_Tw_atHome : Cond.selects R_Tw y_Tw_atHome y_Tw_atHome ∈ wz := wz_s (i := 18) rfl rfl
theorem zs_Tw_Tw_gets : Cond.selects R_Tw y_Tw_gets y_Tw_gets ∈ wz := wz_s (i := 19) rfl rfl
theorem zs_Tw_Tw_data : Cond.selects R_Tw y_Tw_data y_Tw_data ∈ wz := wz_s (i := 20) rfl rfl
theorem zs_Tw_Tw_getm : Cond.selects R_Tw y_Tw_getm y_Tw_getm ∈ wz := wz_s (i := 21) rfl rfl
theorem zs_Tw_Tw_sharers : Cond.selects R_Tw y_Tw_sharers y_Tw_sharers ∈ wz := wz_s (i := 22) rfl rfl
theorem zs_Tw_Tw_atCore : Cond.selects R_Tw y_Tw_atCore y_Tw_atCore ∈ wz := wz_s (i := 23) rfl rfl
theorem zs_Tw_Tw_finish : Cond.selects R_Tw y_Tw_finish y_Tw_finish ∈ wz := wz_s (i := 24) rfl rfl
