/-! HiredByLonging -/
set_option maxRecDepth 100000
def RX1 : String := "HiredByLonging"
def TX1 : u_T := fun k => match k with
  | 0 => ("HiredByLonging", "now", "LHiredByLonging$Land;", true)
  | 1 => ("HiredByLonging", "kept", "LHiredByLonging$Land;", true)
  | 2 => ("HiredByLonging", "mind", "LHiredByLonging$Land;", true)
  | 3 => ("HiredByLonging", "hasImage", "Z", false)
  | 4 => ("HiredByLonging", "told", "[LHiredByLonging$Told;", true)
  | 5 => ("HiredByLonging", "legs", "[LHiredByLonging$Land;", true)
  | 6 => ("HiredByLonging", "fewest", "I", false)
  | 7 => ("HiredByLonging", "firstHorse", "I", false)
  | 8 => ("HiredByLonging", "lots", "I", false)
  | _ => ("HiredByLonging", "shelves", "[LHiredByLonging$Shelf;", true)
def tyX1 : Nat → FieldType := fun k => match k with
  | 0 => .object "HiredByLonging$Land"
  | 1 => .object "HiredByLonging$Land"
  | 2 => .object "HiredByLonging$Land"
  | 3 => .boolean
  | 4 => .array (.object "HiredByLonging$Told")
  | 5 => .array (.object "HiredByLonging$Land")
  | 6 => .int
  | 7 => .int
  | 8 => .int
  | _ => .array (.object "HiredByLonging$Shelf")
abbrev wsX10 : List Cond := u_ws RX1 TX1 10
theorem nmX1 : ∀ a, a < 10 → ∀ b, b < 10 → a ≠ b → (TX1 a).2.1 ≠ (TX1 b).2.1 := by decide +kernel
theorem tyX1_ok : ∀ k, k < 10 → parseFieldDescriptor (TX1 k).2.2.1 = some (tyX1 k) := by decide +kernel
abbrev cX1_land : ByteArray := prog_1_method_11_code
def yX1_land : MethodName := ⟨RX1, "land", "(I)I"⟩
def dkwX1_land_1 : List UInt8 := [199, 0, 8, 16, 245, 167, 0, 8, 42, 44, 182, 0, 132, 172, 77, 16, 244, 172, 77, 44, 180, 0, 138, 172]
abbrev dktX1_land_1 : List UInt8 := dkwX1_land_1 ++ []
def dkwX1_land_0 : List UInt8 := [42, 27, 182, 0, 117, 154, 0, 5, 2, 172, 42, 180, 0, 120, 27, 50, 180, 0, 124, 192, 0, 130, 77, 44]
abbrev dktX1_land_0 : List UInt8 := dkwX1_land_0 ++ dktX1_land_1
theorem dksX1_land_0 : cX1_land.data.toList.drop 0 = dktX1_land_0 := by decide +kernel
theorem dksX1_land_1 : cX1_land.data.toList.drop 24 = dktX1_land_1 := dk_seg dksX1_land_0 24 rfl rfl
theorem dX1_land_0 : decode cX1_land 0 = .ok (.aload_n 0, 1) := dk_42 (dk_at dksX1_land_0 0 rfl rfl)
theorem dX1_land_1 : decode cX1_land 1 = .ok (.iload_n 1, 1) := dk_27 (dk_at dksX1_land_0 1 rfl rfl)
theorem dX1_land_2 : decode cX1_land 2 = .ok (.invokevirtual 117, 3) := dk_182 0 117 (dk_at dksX1_land_0 2 rfl rfl)
theorem dX1_land_5 : decode cX1_land 5 = .ok (.ifCond .ne 5, 3) := dk_154 0 5 (dk_at dksX1_land_0 5 rfl rfl)
theorem dX1_land_8 : decode cX1_land 8 = .ok (.iconst (-1), 1) := dk_2 (dk_at dksX1_land_0 8 rfl rfl)
theorem dX1_land_9 : decode cX1_land 9 = .ok (.ireturn, 1) := dk_172 (dk_at dksX1_land_0 9 rfl rfl)
theorem dX1_land_10 : decode cX1_land 10 = .ok (.aload_n 0, 1) := dk_42 (dk_at dksX1_land_0 10 rfl rfl)
theorem dX1_land_11 : decode cX1_land 11 = .ok (.getfield 120, 3) := dk_180 0 120 (dk_at dksX1_land_0 11 rfl rfl)
theorem dX1_land_14 : decode cX1_land 14 = .ok (.iload_n 1, 1) := dk_27 (dk_at dksX1_land_0 14 rfl rfl)
theorem dX1_land_15 : decode cX1_land 15 = .ok (.aaload, 1) := dk_50 (dk_at dksX1_land_0 15 rfl rfl)
theorem dX1_land_16 : decode cX1_land 16 = .ok (.getfield 124, 3) := dk_180 0 124 (dk_at dksX1_land_0 16 rfl rfl)
theorem dX1_land_19 : decode cX1_land 19 = .ok (.checkcast 130, 3) := dk_192 0 130 (dk_at dksX1_land_0 19 rfl rfl)
theorem dX1_land_22 : decode cX1_land 22 = .ok (.astore_n 2, 1) := dk_77 (dk_at dksX1_land_0 22 rfl rfl)
theorem dX1_land_23 : decode cX1_land 23 = .ok (.aload_n 2, 1) := dk_44 (dk_at dksX1_land_0 23 rfl rfl)
theorem dX1_land_24 : decode cX1_land 24 = .ok (.ifnonnull 8, 3) := dk_199 0 8 (dk_at dksX1_land_1 0 rfl rfl)
theorem dX1_land_27 : decode cX1_land 27 = .ok (.bipush (-11), 2) := dk_16 245 (dk_at dksX1_land_1 3 rfl rfl)
theorem dX1_land_29 : decode cX1_land 29 = .ok (.goto 8, 3) := dk_167 0 8 (dk_at dksX1_land_1 5 rfl rfl)
theorem dX1_land_32 : decode cX1_land 32 = .ok (.aload_n 0, 1) := dk_42 (dk_at dksX1_land_1 8 rfl rfl)
theorem dX1_land_33 : decode cX1_land 33 = .ok (.aload_n 2, 1) := dk_44 (dk_at dksX1_land_1 9 rfl rfl)
theorem dX1_land_34 : decode cX1_land 34 = .ok (.invokevirtual 132, 3) := dk_182 0 132 (dk_at dksX1_land_1 10 rfl rfl)
theorem dX1_land_37 : decode cX1_land 37 = .ok (.ireturn, 1) := dk_172 (dk_at dksX1_land_1 13 rfl rfl)
theorem dX1_land_38 : decode cX1_land 38 = .ok (.astore_n 2, 1) := dk_77 (dk_at dksX1_land_1 14 rfl rfl)
theorem dX1_land_39 : decode cX1_land 39 = .ok (.bipush (-12), 2) := dk_16 244 (dk_at dksX1_land_1 15 rfl rfl)
theorem dX1_land_41 : decode cX1_land 41 = .ok (.ireturn, 1) := dk_172 (dk_at dksX1_land_1 17 rfl rfl)
theorem dX1_land_42 : decode cX1_land 42 = .ok (.astore_n 2, 1) := dk_77 (dk_at dksX1_land_1 18 rfl rfl)
theorem dX1_land_43 : decode cX1_land 43 = .ok (.aload_n 2, 1) := dk_44 (dk_at dksX1_land_1 19 rfl rfl)
theorem dX1_land_44 : decode cX1_land 44 = .ok (.getfield 138, 3) := dk_180 0 138 (dk_at dksX1_land_1 20 rfl rfl)
theorem dX1_land_47 : decode cX1_land 47 = .ok (.ireturn, 1) := dk_172 (dk_at dksX1_land_1 23 rfl rfl)
abbrev cX1_isShelf : ByteArray := prog_1_method_4_code
def yX1_isShelf : MethodName := ⟨RX1, "isShelf", "(I)Z"⟩
def dkwX1_isShelf_0 : List UInt8 := [27, 3, 16, 7, 184, 0, 30, 172]
abbrev dktX1_isShelf_0 : List UInt8 := dkwX1_isShelf_0 ++ []
theorem dksX1_isShelf_0 : cX1_isShelf.data.toList.drop 0 = dktX1_isShelf_0 := by decide +kernel
theorem dX1_isShelf_0 : decode cX1_isShelf 0 = .ok (.iload_n 1, 1) := dk_27 (dk_at dksX1_isShelf_0 0 rfl rfl)
theorem dX1_isShelf_1 : decode cX1_isShelf 1 = .ok (.iconst 0, 1) := dk_3 (dk_at dksX1_isShelf_0 1 rfl rfl)
theorem dX1_isShelf_2 : decode cX1_isShelf 2 = .ok (.bipush 7, 2) := dk_16 7 (dk_at dksX1_isShelf_0 2 rfl rfl)
theorem dX1_isShelf_4 : decode cX1_isShelf 4 = .ok (.invokestatic 30, 3) := dk_184 0 30 (dk_at dksX1_isShelf_0 4 rfl rfl)
theorem dX1_isShelf_7 : decode cX1_isShelf 7 = .ok (.ireturn, 1) := dk_172 (dk_at dksX1_isShelf_0 7 rfl rfl)
abbrev cX1_isIn : ByteArray := prog_1_method_1_code
def yX1_isIn : MethodName := ⟨RX1, "isIn", "(III)Z"⟩
def dkwX1_isIn_0 : List UInt8 := [26, 27, 161, 0, 12, 26, 28, 163, 0, 7, 4, 167, 0, 4, 3, 172]
abbrev dktX1_isIn_0 : List UInt8 := dkwX1_isIn_0 ++ []
theorem dksX1_isIn_0 : cX1_isIn.data.toList.drop 0 = dktX1_isIn_0 := by decide +kernel
theorem dX1_isIn_0 : decode cX1_isIn 0 = .ok (.iload_n 0, 1) := dk_26 (dk_at dksX1_isIn_0 0 rfl rfl)
theorem dX1_isIn_1 : decode cX1_isIn 1 = .ok (.iload_n 1, 1) := dk_27 (dk_at dksX1_isIn_0 1 rfl rfl)
theorem dX1_isIn_2 : decode cX1_isIn 2 = .ok (.if_icmp .lt 12, 3) := dk_161 0 12 (dk_at dksX1_isIn_0 2 rfl rfl)
theorem dX1_isIn_5 : decode cX1_isIn 5 = .ok (.iload_n 0, 1) := dk_26 (dk_at dksX1_isIn_0 5 rfl rfl)
theorem dX1_isIn_6 : decode cX1_isIn 6 = .ok (.iload_n 2, 1) := dk_28 (dk_at dksX1_isIn_0 6 rfl rfl)
theorem dX1_isIn_7 : decode cX1_isIn 7 = .ok (.if_icmp .gt 7, 3) := dk_163 0 7 (dk_at dksX1_isIn_0 7 rfl rfl)
theorem dX1_isIn_10 : decode cX1_isIn 10 = .ok (.iconst 1, 1) := dk_4 (dk_at dksX1_isIn_0 10 rfl rfl)
theorem dX1_isIn_11 : decode cX1_isIn 11 = .ok (.goto 4, 3) := dk_167 0 4 (dk_at dksX1_isIn_0 11 rfl rfl)
theorem dX1_isIn_14 : decode cX1_isIn 14 = .ok (.iconst 0, 1) := dk_3 (dk_at dksX1_isIn_0 14 rfl rfl)
theorem dX1_isIn_15 : decode cX1_isIn 15 = .ok (.ireturn, 1) := dk_172 (dk_at dksX1_isIn_0 15 rfl rfl)
abbrev cX1_reads : ByteArray := prog_1_method_10_code
def yX1_reads : MethodName := ⟨RX1, "reads", "([B)I"⟩
def dkwX1_reads_3 : List UInt8 := [167, 255, 214, 42, 180, 0, 101, 42, 180, 0, 38, 182, 0, 104, 28, 172]
abbrev dktX1_reads_3 : List UInt8 := dkwX1_reads_3 ++ []
def dkwX1_reads_2 : List UInt8 := [187, 0, 111, 89, 17, 248, 48, 42, 180, 0, 93, 29, 50, 180, 0, 113, 100, 183, 0, 116, 191, 132, 3, 1]
abbrev dktX1_reads_2 : List UInt8 := dkwX1_reads_2 ++ dktX1_reads_3
def dkwX1_reads_1 : List UInt8 := [182, 0, 104, 3, 62, 29, 28, 162, 0, 43, 42, 42, 180, 0, 93, 29, 50, 182, 0, 108, 154, 0, 24]
abbrev dktX1_reads_1 : List UInt8 := dkwX1_reads_1 ++ dktX1_reads_2
def dkwX1_reads_0 : List UInt8 := [187, 0, 88, 89, 43, 183, 0, 90, 42, 180, 0, 93, 182, 0, 97, 61, 42, 180, 0, 38, 42, 180, 0, 101]
abbrev dktX1_reads_0 : List UInt8 := dkwX1_reads_0 ++ dktX1_reads_1
theorem dksX1_reads_0 : cX1_reads.data.toList.drop 0 = dktX1_reads_0 := by decide +kernel
theorem dksX1_reads_1 : cX1_reads.data.toList.drop 24 = dktX1_reads_1 := dk_seg dksX1_reads_0 24 rfl rfl
theorem dksX1_reads_2 : cX1_reads.data.toList.drop 47 = dktX1_reads_2 := dk_seg dksX1_reads_1 23 rfl rfl
theorem dksX1_reads_3 : cX1_reads.data.toList.drop 71 = dktX1_reads_3 := dk_seg dksX1_reads_2 24 rfl rfl
theorem dX1_reads_0 : decode cX1_reads 0 = .ok (.new 88, 3) := dk_187 0 88 (dk_at dksX1_reads_0 0 rfl rfl)
theorem dX1_reads_3 : decode cX1_reads 3 = .ok (.dup, 1) := dk_89 (dk_at dksX1_reads_0 3 rfl rfl)
theorem dX1_reads_4 : decode cX1_reads 4 = .ok (.aload_n 1, 1) := dk_43 (dk_at dksX1_reads_0 4 rfl rfl)
theorem dX1_reads_5 : decode cX1_reads 5 = .ok (.invokespecial 90, 3) := dk_183 0 90 (dk_at dksX1_reads_0 5 rfl rfl)
theorem dX1_reads_8 : decode cX1_reads 8 = .ok (.aload_n 0, 1) := dk_42 (dk_at dksX1_reads_0 8 rfl rfl)
theorem dX1_reads_9 : decode cX1_reads 9 = .ok (.getfield 93, 3) := dk_180 0 93 (dk_at dksX1_reads_0 9 rfl rfl)
theorem dX1_reads_12 : decode cX1_reads 12 = .ok (.invokevirtual 97, 3) := dk_182 0 97 (dk_at dksX1_reads_0 12 rfl rfl)
theorem dX1_reads_15 : decode cX1_reads 15 = .ok (.istore_n 2, 1) := dk_61 (dk_at dksX1_reads_0 15 rfl rfl)
theorem dX1_reads_16 : decode cX1_reads 16 = .ok (.aload_n 0, 1) := dk_42 (dk_at dksX1_reads_0 16 rfl rfl)
theorem dX1_reads_17 : decode cX1_reads 17 = .ok (.getfield 38, 3) := dk_180 0 38 (dk_at dksX1_reads_0 17 rfl rfl)
theorem dX1_reads_20 : decode cX1_reads 20 = .ok (.aload_n 0, 1) := dk_42 (dk_at dksX1_reads_0 20 rfl rfl)
theorem dX1_reads_21 : decode cX1_reads 21 = .ok (.getfield 101, 3) := dk_180 0 101 (dk_at dksX1_reads_0 21 rfl rfl)
theorem dX1_reads_24 : decode cX1_reads 24 = .ok (.invokevirtual 104, 3) := dk_182 0 104 (dk_at dksX1_reads_1 0 rfl rfl)
theorem dX1_reads_27 : decode cX1_reads 27 = .ok (.iconst 0, 1) := dk_3 (dk_at dksX1_reads_1 3 rfl rfl)
theorem dX1_reads_28 : decode cX1_reads 28 = .ok (.istore_n 3, 1) := dk_62 (dk_at dksX1_reads_1 4 rfl rfl)
theorem dX1_reads_29 : decode cX1_reads 29 = .ok (.iload_n 3, 1) := dk_29 (dk_at dksX1_reads_1 5 rfl rfl)
theorem dX1_reads_30 : decode cX1_reads 30 = .ok (.iload_n 2, 1) := dk_28 (dk_at dksX1_reads_1 6 rfl rfl)
theorem dX1_reads_31 : decode cX1_reads 31 = .ok (.if_icmp .ge 43, 3) := dk_162 0 43 (dk_at dksX1_reads_1 7 rfl rfl)
theorem dX1_reads_34 : decode cX1_reads 34 = .ok (.aload_n 0, 1) := dk_42 (dk_at dksX1_reads_1 10 rfl rfl)
theorem dX1_reads_35 : decode cX1_reads 35 = .ok (.aload_n 0, 1) := dk_42 (dk_at dksX1_reads_1 11 rfl rfl)
theorem dX1_reads_36 : decode cX1_reads 36 = .ok (.getfield 93, 3) := dk_180 0 93 (dk_at dksX1_reads_1 12 rfl rfl)
theorem dX1_reads_39 : decode cX1_reads 39 = .ok (.iload_n 3, 1) := dk_29 (dk_at dksX1_reads_1 15 rfl rfl)
theorem dX1_reads_40 : decode cX1_reads 40 = .ok (.aaload, 1) := dk_50 (dk_at dksX1_reads_1 16 rfl rfl)
theorem dX1_reads_41 : decode cX1_reads 41 = .ok (.invokevirtual 108, 3) := dk_182 0 108 (dk_at dksX1_reads_1 17 rfl rfl)
theorem dX1_reads_44 : decode cX1_reads 44 = .ok (.ifCond .ne 24, 3) := dk_154 0 24 (dk_at dksX1_reads_1 20 rfl rfl)
theorem dX1_reads_47 : decode cX1_reads 47 = .ok (.new 111, 3) := dk_187 0 111 (dk_at dksX1_reads_2 0 rfl rfl)
theorem dX1_reads_50 : decode cX1_reads 50 = .ok (.dup, 1) := dk_89 (dk_at dksX1_reads_2 3 rfl rfl)
theorem dX1_reads_51 : decode cX1_reads 51 = .ok (.sipush (-2000), 3) := dk_17 248 48 (dk_at dksX1_reads_2 4 rfl rfl)
theorem dX1_reads_54 : decode cX1_reads 54 = .ok (.aload_n 0, 1) := dk_42 (dk_at dksX1_reads_2 7 rfl rfl)
theorem dX1_reads_55 : decode cX1_reads 55 = .ok (.getfield 93, 3) := dk_180 0 93 (dk_at dksX1_reads_2 8 rfl rfl)
theorem dX1_reads_58 : decode cX1_reads 58 = .ok (.iload_n 3, 1) := dk_29 (dk_at dksX1_reads_2 11 rfl rfl)
theorem dX1_reads_59 : decode cX1_reads 59 = .ok (.aaload, 1) := dk_50 (dk_at dksX1_reads_2 12 rfl rfl)
theorem dX1_reads_60 : decode cX1_reads 60 = .ok (.getfield 113, 3) := dk_180 0 113 (dk_at dksX1_reads_2 13 rfl rfl)
theorem dX1_reads_63 : decode cX1_reads 63 = .ok (.isub, 1) := dk_100 (dk_at dksX1_reads_2 16 rfl rfl)
theorem dX1_reads_64 : decode cX1_reads 64 = .ok (.invokespecial 116, 3) := dk_183 0 116 (dk_at dksX1_reads_2 17 rfl rfl)
theorem dX1_reads_67 : decode cX1_reads 67 = .ok (.athrow, 1) := dk_191 (dk_at dksX1_reads_2 20 rfl rfl)
theorem dX1_reads_68 : decode cX1_reads 68 = .ok (.iinc 3 1, 3) := dk_132 3 1 (dk_at dksX1_reads_2 21 rfl rfl)
theorem dX1_reads_71 : decode cX1_reads 71 = .ok (.goto (-42), 3) := dk_167 255 214 (dk_at dksX1_reads_3 0 rfl rfl)
theorem dX1_reads_74 : decode cX1_reads 74 = .ok (.aload_n 0, 1) := dk_42 (dk_at dksX1_reads_3 3 rfl rfl)
theorem dX1_reads_75 : decode cX1_reads 75 = .ok (.getfield 101, 3) := dk_180 0 101 (dk_at dksX1_reads_3 4 rfl rfl)
theorem dX1_reads_78 : decode cX1_reads 78 = .ok (.aload_n 0, 1) := dk_42 (dk_at dksX1_reads_3 7 rfl rfl)
theorem dX1_reads_79 : decode cX1_reads 79 = .ok (.getfield 38, 3) := dk_180 0 38 (dk_at dksX1_reads_3 8 rfl rfl)
theorem dX1_reads_82 : decode cX1_reads 82 = .ok (.invokevirtual 104, 3) := dk_182 0 104 (dk_at dksX1_reads_3 11 rfl rfl)
theorem dX1_reads_85 : decode cX1_reads 85 = .ok (.iload_n 2, 1) := dk_28 (dk_at dksX1_reads_3 14 rfl rfl)
theorem dX1_reads_86 : decode cX1_reads 86 = .ok (.ireturn, 1) := dk_172 (dk_at dksX1_reads_3 15 rfl rfl)
abbrev cX1_comes : ByteArray := prog_1_method_9_code
def yX1_comes : MethodName := ⟨RX1, "comes", "(LHiredByLonging$Told;)Z"⟩
def dkwX1_comes_9 : List UInt8 := [172]
abbrev dktX1_comes_9 : List UInt8 := dkwX1_comes_9 ++ []
def dkwX1_comes_8 : List UInt8 := [184, 0, 30, 153, 0, 20, 42, 180, 0, 38, 180, 0, 76, 17, 3, 231, 163, 0, 7, 4, 167, 0, 4, 3]
abbrev dktX1_comes_8 : List UInt8 := dkwX1_comes_8 ++ dktX1_comes_9
def dkwX1_comes_7 : List UInt8 := [46, 16, 60, 164, 0, 7, 3, 167, 0, 6, 44, 3, 46, 182, 0, 85, 44, 3, 46, 4, 16, 60]
abbrev dktX1_comes_7 : List UInt8 := dkwX1_comes_7 ++ dktX1_comes_8
def dkwX1_comes_6 : List UInt8 := [172, 42, 180, 0, 38, 44, 3, 46, 181, 0, 82, 44, 3, 46, 184, 0, 34, 172, 42, 180, 0, 38, 44, 3]
abbrev dktX1_comes_6 : List UInt8 := dkwX1_comes_6 ++ dktX1_comes_7
def dkwX1_comes_5 : List UInt8 := [46, 182, 0, 69, 154, 0, 5, 3, 172, 42, 180, 0, 38, 180, 0, 79, 44, 3, 46, 44, 4, 46, 79, 4]
abbrev dktX1_comes_5 : List UInt8 := dkwX1_comes_5 ++ dktX1_comes_6
def dkwX1_comes_4 : List UInt8 := [180, 0, 38, 180, 0, 76, 17, 3, 231, 163, 0, 7, 4, 167, 0, 4, 3, 172, 42, 180, 0, 38, 44, 3]
abbrev dktX1_comes_4 : List UInt8 := dkwX1_comes_4 ++ dktX1_comes_5
def dkwX1_comes_3 : List UInt8 := [184, 0, 34, 154, 0, 5, 3, 172, 42, 180, 0, 38, 44, 3, 46, 44, 4, 46, 182, 0, 72, 87, 42]
abbrev dktX1_comes_3 : List UInt8 := dkwX1_comes_3 ++ dktX1_comes_4
def dkwX1_comes_2 : List UInt8 := [42, 44, 182, 0, 65, 172, 42, 180, 0, 38, 44, 3, 46, 182, 0, 69, 153, 0, 12, 44, 4, 46]
abbrev dktX1_comes_2 : List UInt8 := dkwX1_comes_2 ++ dktX1_comes_3
def dkwX1_comes_1 : List UInt8 := [171, 0, 0, 0, 0, 0, 154, 0, 0, 0, 4, 0, 0, 0, 104, 0, 0, 0, 43, 0, 0, 0, 108, 0, 0, 0, 106, 0, 0, 0, 111, 0, 0, 0, 137, 0, 0, 0, 114, 0, 0, 0, 49]
abbrev dktX1_comes_1 : List UInt8 := dkwX1_comes_1 ++ dktX1_comes_2
def dkwX1_comes_0 : List UInt8 := [43, 180, 0, 56, 77, 43, 180, 0, 62]
abbrev dktX1_comes_0 : List UInt8 := dkwX1_comes_0 ++ dktX1_comes_1
theorem dksX1_comes_0 : cX1_comes.data.toList.drop 0 = dktX1_comes_0 := by decide +kernel
theorem dksX1_comes_1 : cX1_comes.data.toList.drop 9 = dktX1_comes_1 := dk_seg dksX1_comes_0 9 rfl rfl
theorem dksX1_comes_2 : cX1_comes.data.toList.drop 52 = dktX1_comes_2 := dk_seg dksX1_comes_1 43 rfl rfl
theorem dksX1_comes_3 : cX1_comes.data.toList.drop 74 = dktX1_comes_3 := dk_seg dksX1_comes_2 22 rfl rfl
theorem dksX1_comes_4 : cX1_comes.data.toList.drop 97 = dktX1_comes_4 := dk_seg dksX1_comes_3 23 rfl rfl
theorem dksX1_comes_5 : cX1_comes.data.toList.drop 121 = dktX1_comes_5 := dk_seg dksX1_comes_4 24 rfl rfl
theorem dksX1_comes_6 : cX1_comes.data.toList.drop 145 = dktX1_comes_6 := dk_seg dksX1_comes_5 24 rfl rfl
theorem dksX1_comes_7 : cX1_comes.data.toList.drop 169 = dktX1_comes_7 := dk_seg dksX1_comes_6 24 rfl rfl
theorem dksX1_comes_8 : cX1_comes.data.toList.drop 191 = dktX1_comes_8 := dk_seg dksX1_comes_7 22 rfl rfl
theorem dksX1_comes_9 : cX1_comes.data.toList.drop 215 = dktX1_comes_9 := dk_seg dksX1_comes_8 24 rfl rfl
theorem dX1_comes_0 : decode cX1_comes 0 = .ok (.aload_n 1, 1) := dk_43 (dk_at dksX1_comes_0 0 rfl rfl)
theorem dX1_comes_1 : decode cX1_comes 1 = .ok (.getfield 56, 3) := dk_180 0 56 (dk_at dksX1_comes_0 1 rfl rfl)
theorem dX1_comes_4 : decode cX1_comes 4 = .ok (.astore_n 2, 1) := dk_77 (dk_at dksX1_comes_0 4 rfl rfl)
theorem dX1_comes_5 : decode cX1_comes 5 = .ok (.aload_n 1, 1) := dk_43 (dk_at dksX1_comes_0 5 rfl rfl)
theorem dX1_comes_6 : decode cX1_comes 6 = .ok (.getfield 62, 3) := dk_180 0 62 (dk_at dksX1_comes_0 6 rfl rfl)
theorem dX1_comes_9 : decode cX1_comes 9 = .ok (.lookupswitch 154 #[(104, 43), (108, 106), (111, 137), (114, 49)], 43) := by decide +kernel
theorem dX1_comes_52 : decode cX1_comes 52 = .ok (.aload_n 0, 1) := dk_42 (dk_at dksX1_comes_2 0 rfl rfl)
theorem dX1_comes_53 : decode cX1_comes 53 = .ok (.aload_n 2, 1) := dk_44 (dk_at dksX1_comes_2 1 rfl rfl)
theorem dX1_comes_54 : decode cX1_comes 54 = .ok (.invokevirtual 65, 3) := dk_182 0 65 (dk_at dksX1_comes_2 2 rfl rfl)
theorem dX1_comes_57 : decode cX1_comes 57 = .ok (.ireturn, 1) := dk_172 (dk_at dksX1_comes_2 5 rfl rfl)
theorem dX1_comes_58 : decode cX1_comes 58 = .ok (.aload_n 0, 1) := dk_42 (dk_at dksX1_comes_2 6 rfl rfl)
theorem dX1_comes_59 : decode cX1_comes 59 = .ok (.getfield 38, 3) := dk_180 0 38 (dk_at dksX1_comes_2 7 rfl rfl)
theorem dX1_comes_62 : decode cX1_comes 62 = .ok (.aload_n 2, 1) := dk_44 (dk_at dksX1_comes_2 10 rfl rfl)
theorem dX1_comes_63 : decode cX1_comes 63 = .ok (.iconst 0, 1) := dk_3 (dk_at dksX1_comes_2 11 rfl rfl)
theorem dX1_comes_64 : decode cX1_comes 64 = .ok (.iaload, 1) := dk_46 (dk_at dksX1_comes_2 12 rfl rfl)
theorem dX1_comes_65 : decode cX1_comes 65 = .ok (.invokevirtual 69, 3) := dk_182 0 69 (dk_at dksX1_comes_2 13 rfl rfl)
theorem dX1_comes_68 : decode cX1_comes 68 = .ok (.ifCond .eq 12, 3) := dk_153 0 12 (dk_at dksX1_comes_2 16 rfl rfl)
theorem dX1_comes_71 : decode cX1_comes 71 = .ok (.aload_n 2, 1) := dk_44 (dk_at dksX1_comes_2 19 rfl rfl)
theorem dX1_comes_72 : decode cX1_comes 72 = .ok (.iconst 1, 1) := dk_4 (dk_at dksX1_comes_2 20 rfl rfl)
theorem dX1_comes_73 : decode cX1_comes 73 = .ok (.iaload, 1) := dk_46 (dk_at dksX1_comes_2 21 rfl rfl)
theorem dX1_comes_74 : decode cX1_comes 74 = .ok (.invokestatic 34, 3) := dk_184 0 34 (dk_at dksX1_comes_3 0 rfl rfl)
theorem dX1_comes_77 : decode cX1_comes 77 = .ok (.ifCond .ne 5, 3) := dk_154 0 5 (dk_at dksX1_comes_3 3 rfl rfl)
theorem dX1_comes_80 : decode cX1_comes 80 = .ok (.iconst 0, 1) := dk_3 (dk_at dksX1_comes_3 6 rfl rfl)
theorem dX1_comes_81 : decode cX1_comes 81 = .ok (.ireturn, 1) := dk_172 (dk_at dksX1_comes_3 7 rfl rfl)
theorem dX1_comes_82 : decode cX1_comes 82 = .ok (.aload_n 0, 1) := dk_42 (dk_at dksX1_comes_3 8 rfl rfl)
theorem dX1_comes_83 : decode cX1_comes 83 = .ok (.getfield 38, 3) := dk_180 0 38 (dk_at dksX1_comes_3 9 rfl rfl)
theorem dX1_comes_86 : decode cX1_comes 86 = .ok (.aload_n 2, 1) := dk_44 (dk_at dksX1_comes_3 12 rfl rfl)
theorem dX1_comes_87 : decode cX1_comes 87 = .ok (.iconst 0, 1) := dk_3 (dk_at dksX1_comes_3 13 rfl rfl)
theorem dX1_comes_88 : decode cX1_comes 88 = .ok (.iaload, 1) := dk_46 (dk_at dksX1_comes_3 14 rfl rfl)
theorem dX1_comes_89 : decode cX1_comes 89 = .ok (.aload_n 2, 1) := dk_44 (dk_at dksX1_comes_3 15 rfl rfl)
theorem dX1_comes_90 : decode cX1_comes 90 = .ok (.iconst 1, 1) := dk_4 (dk_at dksX1_comes_3 16 rfl rfl)
theorem dX1_comes_91 : decode cX1_comes 91 = .ok (.iaload, 1) := dk_46 (dk_at dksX1_comes_3 17 rfl rfl)
theorem dX1_comes_92 : decode cX1_comes 92 = .ok (.invokevirtual 72, 3) := dk_182 0 72 (dk_at dksX1_comes_3 18 rfl rfl)
theorem dX1_comes_95 : decode cX1_comes 95 = .ok (.pop, 1) := dk_87 (dk_at dksX1_comes_3 21 rfl rfl)
theorem dX1_comes_96 : decode cX1_comes 96 = .ok (.aload_n 0, 1) := dk_42 (dk_at dksX1_comes_3 22 rfl rfl)
theorem dX1_comes_97 : decode cX1_comes 97 = .ok (.getfield 38, 3) := dk_180 0 38 (dk_at dksX1_comes_4 0 rfl rfl)
theorem dX1_comes_100 : decode cX1_comes 100 = .ok (.getfield 76, 3) := dk_180 0 76 (dk_at dksX1_comes_4 3 rfl rfl)
theorem dX1_comes_103 : decode cX1_comes 103 = .ok (.sipush 999, 3) := dk_17 3 231 (dk_at dksX1_comes_4 6 rfl rfl)
theorem dX1_comes_106 : decode cX1_comes 106 = .ok (.if_icmp .gt 7, 3) := dk_163 0 7 (dk_at dksX1_comes_4 9 rfl rfl)
theorem dX1_comes_109 : decode cX1_comes 109 = .ok (.iconst 1, 1) := dk_4 (dk_at dksX1_comes_4 12 rfl rfl)
theorem dX1_comes_110 : decode cX1_comes 110 = .ok (.goto 4, 3) := dk_167 0 4 (dk_at dksX1_comes_4 13 rfl rfl)
theorem dX1_comes_113 : decode cX1_comes 113 = .ok (.iconst 0, 1) := dk_3 (dk_at dksX1_comes_4 16 rfl rfl)
theorem dX1_comes_114 : decode cX1_comes 114 = .ok (.ireturn, 1) := dk_172 (dk_at dksX1_comes_4 17 rfl rfl)
theorem dX1_comes_115 : decode cX1_comes 115 = .ok (.aload_n 0, 1) := dk_42 (dk_at dksX1_comes_4 18 rfl rfl)
theorem dX1_comes_116 : decode cX1_comes 116 = .ok (.getfield 38, 3) := dk_180 0 38 (dk_at dksX1_comes_4 19 rfl rfl)
theorem dX1_comes_119 : decode cX1_comes 119 = .ok (.aload_n 2, 1) := dk_44 (dk_at dksX1_comes_4 22 rfl rfl)
theorem dX1_comes_120 : decode cX1_comes 120 = .ok (.iconst 0, 1) := dk_3 (dk_at dksX1_comes_4 23 rfl rfl)
theorem dX1_comes_121 : decode cX1_comes 121 = .ok (.iaload, 1) := dk_46 (dk_at dksX1_comes_5 0 rfl rfl)
theorem dX1_comes_122 : decode cX1_comes 122 = .ok (.invokevirtual 69, 3) := dk_182 0 69 (dk_at dksX1_comes_5 1 rfl rfl)
theorem dX1_comes_125 : decode cX1_comes 125 = .ok (.ifCond .ne 5, 3) := dk_154 0 5 (dk_at dksX1_comes_5 4 rfl rfl)
theorem dX1_comes_128 : decode cX1_comes 128 = .ok (.iconst 0, 1) := dk_3 (dk_at dksX1_comes_5 7 rfl rfl)
theorem dX1_comes_129 : decode cX1_comes 129 = .ok (.ireturn, 1) := dk_172 (dk_at dksX1_comes_5 8 rfl rfl)
theorem dX1_comes_130 : decode cX1_comes 130 = .ok (.aload_n 0, 1) := dk_42 (dk_at dksX1_comes_5 9 rfl rfl)
theorem dX1_comes_131 : decode cX1_comes 131 = .ok (.getfield 38, 3) := dk_180 0 38 (dk_at dksX1_comes_5 10 rfl rfl)
theorem dX1_comes_134 : decode cX1_comes 134 = .ok (.getfield 79, 3) := dk_180 0 79 (dk_at dksX1_comes_5 13 rfl rfl)
theorem dX1_comes_137 : decode cX1_comes 137 = .ok (.aload_n 2, 1) := dk_44 (dk_at dksX1_comes_5 16 rfl rfl)
theorem dX1_comes_138 : decode cX1_comes 138 = .ok (.iconst 0, 1) := dk_3 (dk_at dksX1_comes_5 17 rfl rfl)
theorem dX1_comes_139 : decode cX1_comes 139 = .ok (.iaload, 1) := dk_46 (dk_at dksX1_comes_5 18 rfl rfl)
theorem dX1_comes_140 : decode cX1_comes 140 = .ok (.aload_n 2, 1) := dk_44 (dk_at dksX1_comes_5 19 rfl rfl)
theorem dX1_comes_141 : decode cX1_comes 141 = .ok (.iconst 1, 1) := dk_4 (dk_at dksX1_comes_5 20 rfl rfl)
theorem dX1_comes_142 : decode cX1_comes 142 = .ok (.iaload, 1) := dk_46 (dk_at dksX1_comes_5 21 rfl rfl)
theorem dX1_comes_143 : decode cX1_comes 143 = .ok (.iastore, 1) := dk_79 (dk_at dksX1_comes_5 22 rfl rfl)
theorem dX1_comes_144 : decode cX1_comes 144 = .ok (.iconst 1, 1) := dk_4 (dk_at dksX1_comes_5 23 rfl rfl)
theorem dX1_comes_145 : decode cX1_comes 145 = .ok (.ireturn, 1) := dk_172 (dk_at dksX1_comes_6 0 rfl rfl)
theorem dX1_comes_146 : decode cX1_comes 146 = .ok (.aload_n 0, 1) := dk_42 (dk_at dksX1_comes_6 1 rfl rfl)
theorem dX1_comes_147 : decode cX1_comes 147 = .ok (.getfield 38, 3) := dk_180 0 38 (dk_at dksX1_comes_6 2 rfl rfl)
theorem dX1_comes_150 : decode cX1_comes 150 = .ok (.aload_n 2, 1) := dk_44 (dk_at dksX1_comes_6 5 rfl rfl)
theorem dX1_comes_151 : decode cX1_comes 151 = .ok (.iconst 0, 1) := dk_3 (dk_at dksX1_comes_6 6 rfl rfl)
theorem dX1_comes_152 : decode cX1_comes 152 = .ok (.iaload, 1) := dk_46 (dk_at dksX1_comes_6 7 rfl rfl)
theorem dX1_comes_153 : decode cX1_comes 153 = .ok (.putfield 82, 3) := dk_181 0 82 (dk_at dksX1_comes_6 8 rfl rfl)
theorem dX1_comes_156 : decode cX1_comes 156 = .ok (.aload_n 2, 1) := dk_44 (dk_at dksX1_comes_6 11 rfl rfl)
theorem dX1_comes_157 : decode cX1_comes 157 = .ok (.iconst 0, 1) := dk_3 (dk_at dksX1_comes_6 12 rfl rfl)
theorem dX1_comes_158 : decode cX1_comes 158 = .ok (.iaload, 1) := dk_46 (dk_at dksX1_comes_6 13 rfl rfl)
theorem dX1_comes_159 : decode cX1_comes 159 = .ok (.invokestatic 34, 3) := dk_184 0 34 (dk_at dksX1_comes_6 14 rfl rfl)
theorem dX1_comes_162 : decode cX1_comes 162 = .ok (.ireturn, 1) := dk_172 (dk_at dksX1_comes_6 17 rfl rfl)
theorem dX1_comes_163 : decode cX1_comes 163 = .ok (.aload_n 0, 1) := dk_42 (dk_at dksX1_comes_6 18 rfl rfl)
theorem dX1_comes_164 : decode cX1_comes 164 = .ok (.getfield 38, 3) := dk_180 0 38 (dk_at dksX1_comes_6 19 rfl rfl)
theorem dX1_comes_167 : decode cX1_comes 167 = .ok (.aload_n 2, 1) := dk_44 (dk_at dksX1_comes_6 22 rfl rfl)
theorem dX1_comes_168 : decode cX1_comes 168 = .ok (.iconst 0, 1) := dk_3 (dk_at dksX1_comes_6 23 rfl rfl)
theorem dX1_comes_169 : decode cX1_comes 169 = .ok (.iaload, 1) := dk_46 (dk_at dksX1_comes_7 0 rfl rfl)
theorem dX1_comes_170 : decode cX1_comes 170 = .ok (.bipush 60, 2) := dk_16 60 (dk_at dksX1_comes_7 1 rfl rfl)
theorem dX1_comes_172 : decode cX1_comes 172 = .ok (.if_icmp .le 7, 3) := dk_164 0 7 (dk_at dksX1_comes_7 3 rfl rfl)
theorem dX1_comes_175 : decode cX1_comes 175 = .ok (.iconst 0, 1) := dk_3 (dk_at dksX1_comes_7 6 rfl rfl)
theorem dX1_comes_176 : decode cX1_comes 176 = .ok (.goto 6, 3) := dk_167 0 6 (dk_at dksX1_comes_7 7 rfl rfl)
theorem dX1_comes_179 : decode cX1_comes 179 = .ok (.aload_n 2, 1) := dk_44 (dk_at dksX1_comes_7 10 rfl rfl)
theorem dX1_comes_180 : decode cX1_comes 180 = .ok (.iconst 0, 1) := dk_3 (dk_at dksX1_comes_7 11 rfl rfl)
theorem dX1_comes_181 : decode cX1_comes 181 = .ok (.iaload, 1) := dk_46 (dk_at dksX1_comes_7 12 rfl rfl)
theorem dX1_comes_182 : decode cX1_comes 182 = .ok (.invokevirtual 85, 3) := dk_182 0 85 (dk_at dksX1_comes_7 13 rfl rfl)
theorem dX1_comes_185 : decode cX1_comes 185 = .ok (.aload_n 2, 1) := dk_44 (dk_at dksX1_comes_7 16 rfl rfl)
theorem dX1_comes_186 : decode cX1_comes 186 = .ok (.iconst 0, 1) := dk_3 (dk_at dksX1_comes_7 17 rfl rfl)
theorem dX1_comes_187 : decode cX1_comes 187 = .ok (.iaload, 1) := dk_46 (dk_at dksX1_comes_7 18 rfl rfl)
theorem dX1_comes_188 : decode cX1_comes 188 = .ok (.iconst 1, 1) := dk_4 (dk_at dksX1_comes_7 19 rfl rfl)
theorem dX1_comes_189 : decode cX1_comes 189 = .ok (.bipush 60, 2) := dk_16 60 (dk_at dksX1_comes_7 20 rfl rfl)
theorem dX1_comes_191 : decode cX1_comes 191 = .ok (.invokestatic 30, 3) := dk_184 0 30 (dk_at dksX1_comes_8 0 rfl rfl)
theorem dX1_comes_194 : decode cX1_comes 194 = .ok (.ifCond .eq 20, 3) := dk_153 0 20 (dk_at dksX1_comes_8 3 rfl rfl)
theorem dX1_comes_197 : decode cX1_comes 197 = .ok (.aload_n 0, 1) := dk_42 (dk_at dksX1_comes_8 6 rfl rfl)
theorem dX1_comes_198 : decode cX1_comes 198 = .ok (.getfield 38, 3) := dk_180 0 38 (dk_at dksX1_comes_8 7 rfl rfl)
theorem dX1_comes_201 : decode cX1_comes 201 = .ok (.getfield 76, 3) := dk_180 0 76 (dk_at dksX1_comes_8 10 rfl rfl)
theorem dX1_comes_204 : decode cX1_comes 204 = .ok (.sipush 999, 3) := dk_17 3 231 (dk_at dksX1_comes_8 13 rfl rfl)
theorem dX1_comes_207 : decode cX1_comes 207 = .ok (.if_icmp .gt 7, 3) := dk_163 0 7 (dk_at dksX1_comes_8 16 rfl rfl)
theorem dX1_comes_210 : decode cX1_comes 210 = .ok (.iconst 1, 1) := dk_4 (dk_at dksX1_comes_8 19 rfl rfl)
theorem dX1_comes_211 : decode cX1_comes 211 = .ok (.goto 4, 3) := dk_167 0 4 (dk_at dksX1_comes_8 20 rfl rfl)
theorem dX1_comes_214 : decode cX1_comes 214 = .ok (.iconst 0, 1) := dk_3 (dk_at dksX1_comes_8 23 rfl rfl)
theorem dX1_comes_215 : decode cX1_comes 215 = .ok (.ireturn, 1) := dk_172 (dk_at dksX1_comes_9 0 rfl rfl)
abbrev cX1_comesHorse : ByteArray := prog_1_method_8_code
def yX1_comesHorse : MethodName := ⟨RX1, "comesHorse", "([I)Z"⟩
def dkwX1_comesHorse_2 : List UInt8 := [43, 4, 46, 184, 0, 48, 43, 5, 46, 43, 6, 46, 182, 0, 52, 87, 4, 172]
abbrev dktX1_comesHorse_2 : List UInt8 := dkwX1_comesHorse_2 ++ []
def dkwX1_comesHorse_1 : List UInt8 := [153, 0, 15, 42, 180, 0, 38, 180, 0, 42, 16, 7, 160, 0, 5, 3, 172, 42, 180, 0, 38, 43, 3, 46]
abbrev dktX1_comesHorse_1 : List UInt8 := dkwX1_comesHorse_1 ++ dktX1_comesHorse_2
def dkwX1_comesHorse_0 : List UInt8 := [43, 3, 46, 16, 8, 162, 0, 33, 43, 5, 46, 184, 0, 34, 153, 0, 24, 43, 6, 46, 184, 0, 34]
abbrev dktX1_comesHorse_0 : List UInt8 := dkwX1_comesHorse_0 ++ dktX1_comesHorse_1
theorem dksX1_comesHorse_0 : cX1_comesHorse.data.toList.drop 0 = dktX1_comesHorse_0 := by decide +kernel
theorem dksX1_comesHorse_1 : cX1_comesHorse.data.toList.drop 23 = dktX1_comesHorse_1 := dk_seg dksX1_comesHorse_0 23 rfl rfl
theorem dksX1_comesHorse_2 : cX1_comesHorse.data.toList.drop 47 = dktX1_comesHorse_2 := dk_seg dksX1_comesHorse_1 24 rfl rfl
theorem dX1_comesHorse_0 : decode cX1_comesHorse 0 = .ok (.aload_n 1, 1) := dk_43 (dk_at dksX1_comesHorse_0 0 rfl rfl)
theorem dX1_comesHorse_1 : decode cX1_comesHorse 1 = .ok (.iconst 0, 1) := dk_3 (dk_at dksX1_comesHorse_0 1 rfl rfl)
theorem dX1_comesHorse_2 : decode cX1_comesHorse 2 = .ok (.iaload, 1) := dk_46 (dk_at dksX1_comesHorse_0 2 rfl rfl)
theorem dX1_comesHorse_3 : decode cX1_comesHorse 3 = .ok (.bipush 8, 2) := dk_16 8 (dk_at dksX1_comesHorse_0 3 rfl rfl)
theorem dX1_comesHorse_5 : decode cX1_comesHorse 5 = .ok (.if_icmp .ge 33, 3) := dk_162 0 33 (dk_at dksX1_comesHorse_0 5 rfl rfl)
theorem dX1_comesHorse_8 : decode cX1_comesHorse 8 = .ok (.aload_n 1, 1) := dk_43 (dk_at dksX1_comesHorse_0 8 rfl rfl)
theorem dX1_comesHorse_9 : decode cX1_comesHorse 9 = .ok (.iconst 2, 1) := dk_5 (dk_at dksX1_comesHorse_0 9 rfl rfl)
theorem dX1_comesHorse_10 : decode cX1_comesHorse 10 = .ok (.iaload, 1) := dk_46 (dk_at dksX1_comesHorse_0 10 rfl rfl)
theorem dX1_comesHorse_11 : decode cX1_comesHorse 11 = .ok (.invokestatic 34, 3) := dk_184 0 34 (dk_at dksX1_comesHorse_0 11 rfl rfl)
theorem dX1_comesHorse_14 : decode cX1_comesHorse 14 = .ok (.ifCond .eq 24, 3) := dk_153 0 24 (dk_at dksX1_comesHorse_0 14 rfl rfl)
theorem dX1_comesHorse_17 : decode cX1_comesHorse 17 = .ok (.aload_n 1, 1) := dk_43 (dk_at dksX1_comesHorse_0 17 rfl rfl)
theorem dX1_comesHorse_18 : decode cX1_comesHorse 18 = .ok (.iconst 3, 1) := dk_6 (dk_at dksX1_comesHorse_0 18 rfl rfl)
theorem dX1_comesHorse_19 : decode cX1_comesHorse 19 = .ok (.iaload, 1) := dk_46 (dk_at dksX1_comesHorse_0 19 rfl rfl)
theorem dX1_comesHorse_20 : decode cX1_comesHorse 20 = .ok (.invokestatic 34, 3) := dk_184 0 34 (dk_at dksX1_comesHorse_0 20 rfl rfl)
theorem dX1_comesHorse_23 : decode cX1_comesHorse 23 = .ok (.ifCond .eq 15, 3) := dk_153 0 15 (dk_at dksX1_comesHorse_1 0 rfl rfl)
theorem dX1_comesHorse_26 : decode cX1_comesHorse 26 = .ok (.aload_n 0, 1) := dk_42 (dk_at dksX1_comesHorse_1 3 rfl rfl)
theorem dX1_comesHorse_27 : decode cX1_comesHorse 27 = .ok (.getfield 38, 3) := dk_180 0 38 (dk_at dksX1_comesHorse_1 4 rfl rfl)
theorem dX1_comesHorse_30 : decode cX1_comesHorse 30 = .ok (.getfield 42, 3) := dk_180 0 42 (dk_at dksX1_comesHorse_1 7 rfl rfl)
theorem dX1_comesHorse_33 : decode cX1_comesHorse 33 = .ok (.bipush 7, 2) := dk_16 7 (dk_at dksX1_comesHorse_1 10 rfl rfl)
theorem dX1_comesHorse_35 : decode cX1_comesHorse 35 = .ok (.if_icmp .ne 5, 3) := dk_160 0 5 (dk_at dksX1_comesHorse_1 12 rfl rfl)
theorem dX1_comesHorse_38 : decode cX1_comesHorse 38 = .ok (.iconst 0, 1) := dk_3 (dk_at dksX1_comesHorse_1 15 rfl rfl)
theorem dX1_comesHorse_39 : decode cX1_comesHorse 39 = .ok (.ireturn, 1) := dk_172 (dk_at dksX1_comesHorse_1 16 rfl rfl)
theorem dX1_comesHorse_40 : decode cX1_comesHorse 40 = .ok (.aload_n 0, 1) := dk_42 (dk_at dksX1_comesHorse_1 17 rfl rfl)
theorem dX1_comesHorse_41 : decode cX1_comesHorse 41 = .ok (.getfield 38, 3) := dk_180 0 38 (dk_at dksX1_comesHorse_1 18 rfl rfl)
theorem dX1_comesHorse_44 : decode cX1_comesHorse 44 = .ok (.aload_n 1, 1) := dk_43 (dk_at dksX1_comesHorse_1 21 rfl rfl)
theorem dX1_comesHorse_45 : decode cX1_comesHorse 45 = .ok (.iconst 0, 1) := dk_3 (dk_at dksX1_comesHorse_1 22 rfl rfl)
theorem dX1_comesHorse_46 : decode cX1_comesHorse 46 = .ok (.iaload, 1) := dk_46 (dk_at dksX1_comesHorse_1 23 rfl rfl)
theorem dX1_comesHorse_47 : decode cX1_comesHorse 47 = .ok (.aload_n 1, 1) := dk_43 (dk_at dksX1_comesHorse_2 0 rfl rfl)
theorem dX1_comesHorse_48 : decode cX1_comesHorse 48 = .ok (.iconst 1, 1) := dk_4 (dk_at dksX1_comesHorse_2 1 rfl rfl)
theorem dX1_comesHorse_49 : decode cX1_comesHorse 49 = .ok (.iaload, 1) := dk_46 (dk_at dksX1_comesHorse_2 2 rfl rfl)
theorem dX1_comesHorse_50 : decode cX1_comesHorse 50 = .ok (.invokestatic 48, 3) := dk_184 0 48 (dk_at dksX1_comesHorse_2 3 rfl rfl)
theorem dX1_comesHorse_53 : decode cX1_comesHorse 53 = .ok (.aload_n 1, 1) := dk_43 (dk_at dksX1_comesHorse_2 6 rfl rfl)
theorem dX1_comesHorse_54 : decode cX1_comesHorse 54 = .ok (.iconst 2, 1) := dk_5 (dk_at dksX1_comesHorse_2 7 rfl rfl)
theorem dX1_comesHorse_55 : decode cX1_comesHorse 55 = .ok (.iaload, 1) := dk_46 (dk_at dksX1_comesHorse_2 8 rfl rfl)
theorem dX1_comesHorse_56 : decode cX1_comesHorse 56 = .ok (.aload_n 1, 1) := dk_43 (dk_at dksX1_comesHorse_2 9 rfl rfl)
theorem dX1_comesHorse_57 : decode cX1_comesHorse 57 = .ok (.iconst 3, 1) := dk_6 (dk_at dksX1_comesHorse_2 10 rfl rfl)
theorem dX1_comesHorse_58 : decode cX1_comesHorse 58 = .ok (.iaload, 1) := dk_46 (dk_at dksX1_comesHorse_2 11 rfl rfl)
theorem dX1_comesHorse_59 : decode cX1_comesHorse 59 = .ok (.invokevirtual 52, 3) := dk_182 0 52 (dk_at dksX1_comesHorse_2 12 rfl rfl)
theorem dX1_comesHorse_62 : decode cX1_comesHorse 62 = .ok (.pop, 1) := dk_87 (dk_at dksX1_comesHorse_2 15 rfl rfl)
theorem dX1_comesHorse_63 : decode cX1_comesHorse 63 = .ok (.iconst 1, 1) := dk_4 (dk_at dksX1_comesHorse_2 16 rfl rfl)
theorem dX1_comesHorse_64 : decode cX1_comesHorse 64 = .ok (.ireturn, 1) := dk_172 (dk_at dksX1_comesHorse_2 17 rfl rfl)
abbrev cX1_isYard : ByteArray := prog_1_method_5_code
def yX1_isYard : MethodName := ⟨RX1, "isYard", "(I)Z"⟩
def dkwX1_isYard_0 : List UInt8 := [26, 3, 16, 20, 184, 0, 30, 172]
abbrev dktX1_isYard_0 : List UInt8 := dkwX1_isYard_0 ++ []
theorem dksX1_isYard_0 : cX1_isYard.data.toList.drop 0 = dktX1_isYard_0 := by decide +kernel
theorem dX1_isYard_0 : decode cX1_isYard 0 = .ok (.iload_n 0, 1) := dk_26 (dk_at dksX1_isYard_0 0 rfl rfl)
theorem dX1_isYard_1 : decode cX1_isYard 1 = .ok (.iconst 0, 1) := dk_3 (dk_at dksX1_isYard_0 1 rfl rfl)
theorem dX1_isYard_2 : decode cX1_isYard 2 = .ok (.bipush 20, 2) := dk_16 20 (dk_at dksX1_isYard_0 2 rfl rfl)
theorem dX1_isYard_4 : decode cX1_isYard 4 = .ok (.invokestatic 30, 3) := dk_184 0 30 (dk_at dksX1_isYard_0 4 rfl rfl)
theorem dX1_isYard_7 : decode cX1_isYard 7 = .ok (.ireturn, 1) := dk_172 (dk_at dksX1_isYard_0 7 rfl rfl)
abbrev cX1_horseOf : ByteArray := prog_1_method_3_code
def yX1_horseOf : MethodName := ⟨RX1, "horseOf", "(II)LHiredByLonging$Horse;"⟩
def dkwX1_horseOf_5 : List UInt8 := [183, 0, 27, 176]
abbrev dktX1_horseOf_5 : List UInt8 := dkwX1_horseOf_5 ++ []
def dkwX1_horseOf_4 : List UInt8 := [187, 0, 19, 89, 27, 183, 0, 21, 176, 187, 0, 22, 89, 27, 183, 0, 24, 176, 187, 0, 25, 89, 27]
abbrev dktX1_horseOf_4 : List UInt8 := dkwX1_horseOf_4 ++ dktX1_horseOf_5
def dkwX1_horseOf_3 : List UInt8 := [183, 0, 12, 176, 187, 0, 13, 89, 27, 183, 0, 15, 176, 187, 0, 16, 89, 27, 183, 0, 18, 176]
abbrev dktX1_horseOf_3 : List UInt8 := dkwX1_horseOf_3 ++ dktX1_horseOf_4
def dkwX1_horseOf_2 : List UInt8 := [187, 0, 1, 89, 27, 183, 0, 3, 176, 187, 0, 7, 89, 27, 183, 0, 9, 176, 187, 0, 10, 89, 27]
abbrev dktX1_horseOf_2 : List UInt8 := dkwX1_horseOf_2 ++ dktX1_horseOf_3
def dkwX1_horseOf_1 : List UInt8 := [170, 0, 0, 0, 0, 0, 106, 0, 0, 0, 0, 0, 0, 0, 6, 0, 0, 0, 43, 0, 0, 0, 52, 0, 0, 0, 61, 0, 0, 0, 70, 0, 0, 0, 79, 0, 0, 0, 88, 0, 0, 0, 97]
abbrev dktX1_horseOf_1 : List UInt8 := dkwX1_horseOf_1 ++ dktX1_horseOf_2
def dkwX1_horseOf_0 : List UInt8 := [26]
abbrev dktX1_horseOf_0 : List UInt8 := dkwX1_horseOf_0 ++ dktX1_horseOf_1
theorem dksX1_horseOf_0 : cX1_horseOf.data.toList.drop 0 = dktX1_horseOf_0 := by decide +kernel
theorem dksX1_horseOf_1 : cX1_horseOf.data.toList.drop 1 = dktX1_horseOf_1 := dk_seg dksX1_horseOf_0 1 rfl rfl
theorem dksX1_horseOf_2 : cX1_horseOf.data.toList.drop 44 = dktX1_horseOf_2 := dk_seg dksX1_horseOf_1 43 rfl rfl
theorem dksX1_horseOf_3 : cX1_horseOf.data.toList.drop 67 = dktX1_horseOf_3 := dk_seg dksX1_horseOf_2 23 rfl rfl
theorem dksX1_horseOf_4 : cX1_horseOf.data.toList.drop 89 = dktX1_horseOf_4 := dk_seg dksX1_horseOf_3 22 rfl rfl
theorem dksX1_horseOf_5 : cX1_horseOf.data.toList.drop 112 = dktX1_horseOf_5 := dk_seg dksX1_horseOf_4 23 rfl rfl
theorem dX1_horseOf_0 : decode cX1_horseOf 0 = .ok (.iload_n 0, 1) := dk_26 (dk_at dksX1_horseOf_0 0 rfl rfl)
theorem dX1_horseOf_1 : decode cX1_horseOf 1 = .ok (.tableswitch 106 0 6 #[43, 52, 61, 70, 79, 88, 97], 43) := by decide +kernel
theorem dX1_horseOf_44 : decode cX1_horseOf 44 = .ok (.new 1, 3) := dk_187 0 1 (dk_at dksX1_horseOf_2 0 rfl rfl)
theorem dX1_horseOf_47 : decode cX1_horseOf 47 = .ok (.dup, 1) := dk_89 (dk_at dksX1_horseOf_2 3 rfl rfl)
theorem dX1_horseOf_48 : decode cX1_horseOf 48 = .ok (.iload_n 1, 1) := dk_27 (dk_at dksX1_horseOf_2 4 rfl rfl)
theorem dX1_horseOf_49 : decode cX1_horseOf 49 = .ok (.invokespecial 3, 3) := dk_183 0 3 (dk_at dksX1_horseOf_2 5 rfl rfl)
theorem dX1_horseOf_52 : decode cX1_horseOf 52 = .ok (.areturn, 1) := dk_176 (dk_at dksX1_horseOf_2 8 rfl rfl)
theorem dX1_horseOf_53 : decode cX1_horseOf 53 = .ok (.new 7, 3) := dk_187 0 7 (dk_at dksX1_horseOf_2 9 rfl rfl)
theorem dX1_horseOf_56 : decode cX1_horseOf 56 = .ok (.dup, 1) := dk_89 (dk_at dksX1_horseOf_2 12 rfl rfl)
theorem dX1_horseOf_57 : decode cX1_horseOf 57 = .ok (.iload_n 1, 1) := dk_27 (dk_at dksX1_horseOf_2 13 rfl rfl)
theorem dX1_horseOf_58 : decode cX1_horseOf 58 = .ok (.invokespecial 9, 3) := dk_183 0 9 (dk_at dksX1_horseOf_2 14 rfl rfl)
theorem dX1_horseOf_61 : decode cX1_horseOf 61 = .ok (.areturn, 1) := dk_176 (dk_at dksX1_horseOf_2 17 rfl rfl)
theorem dX1_horseOf_62 : decode cX1_horseOf 62 = .ok (.new 10, 3) := dk_187 0 10 (dk_at dksX1_horseOf_2 18 rfl rfl)
theorem dX1_horseOf_65 : decode cX1_horseOf 65 = .ok (.dup, 1) := dk_89 (dk_at dksX1_horseOf_2 21 rfl rfl)
theorem dX1_horseOf_66 : decode cX1_horseOf 66 = .ok (.iload_n 1, 1) := dk_27 (dk_at dksX1_horseOf_2 22 rfl rfl)
theorem dX1_horseOf_67 : decode cX1_horseOf 67 = .ok (.invokespecial 12, 3) := dk_183 0 12 (dk_at dksX1_horseOf_3 0 rfl rfl)
theorem dX1_horseOf_70 : decode cX1_horseOf 70 = .ok (.areturn, 1) := dk_176 (dk_at dksX1_horseOf_3 3 rfl rfl)
theorem dX1_horseOf_71 : decode cX1_horseOf 71 = .ok (.new 13, 3) := dk_187 0 13 (dk_at dksX1_horseOf_3 4 rfl rfl)
theorem dX1_horseOf_74 : decode cX1_horseOf 74 = .ok (.dup, 1) := dk_89 (dk_at dksX1_horseOf_3 7 rfl rfl)
theorem dX1_horseOf_75 : decode cX1_horseOf 75 = .ok (.iload_n 1, 1) := dk_27 (dk_at dksX1_horseOf_3 8 rfl rfl)
theorem dX1_horseOf_76 : decode cX1_horseOf 76 = .ok (.invokespecial 15, 3) := dk_183 0 15 (dk_at dksX1_horseOf_3 9 rfl rfl)
theorem dX1_horseOf_79 : decode cX1_horseOf 79 = .ok (.areturn, 1) := dk_176 (dk_at dksX1_horseOf_3 12 rfl rfl)
theorem dX1_horseOf_80 : decode cX1_horseOf 80 = .ok (.new 16, 3) := dk_187 0 16 (dk_at dksX1_horseOf_3 13 rfl rfl)
theorem dX1_horseOf_83 : decode cX1_horseOf 83 = .ok (.dup, 1) := dk_89 (dk_at dksX1_horseOf_3 16 rfl rfl)
theorem dX1_horseOf_84 : decode cX1_horseOf 84 = .ok (.iload_n 1, 1) := dk_27 (dk_at dksX1_horseOf_3 17 rfl rfl)
theorem dX1_horseOf_85 : decode cX1_horseOf 85 = .ok (.invokespecial 18, 3) := dk_183 0 18 (dk_at dksX1_horseOf_3 18 rfl rfl)
theorem dX1_horseOf_88 : decode cX1_horseOf 88 = .ok (.areturn, 1) := dk_176 (dk_at dksX1_horseOf_3 21 rfl rfl)
theorem dX1_horseOf_89 : decode cX1_horseOf 89 = .ok (.new 19, 3) := dk_187 0 19 (dk_at dksX1_horseOf_4 0 rfl rfl)
theorem dX1_horseOf_92 : decode cX1_horseOf 92 = .ok (.dup, 1) := dk_89 (dk_at dksX1_horseOf_4 3 rfl rfl)
theorem dX1_horseOf_93 : decode cX1_horseOf 93 = .ok (.iload_n 1, 1) := dk_27 (dk_at dksX1_horseOf_4 4 rfl rfl)
theorem dX1_horseOf_94 : decode cX1_horseOf 94 = .ok (.invokespecial 21, 3) := dk_183 0 21 (dk_at dksX1_horseOf_4 5 rfl rfl)
theorem dX1_horseOf_97 : decode cX1_horseOf 97 = .ok (.areturn, 1) := dk_176 (dk_at dksX1_horseOf_4 8 rfl rfl)
theorem dX1_horseOf_98 : decode cX1_horseOf 98 = .ok (.new 22, 3) := dk_187 0 22 (dk_at dksX1_horseOf_4 9 rfl rfl)
theorem dX1_horseOf_101 : decode cX1_horseOf 101 = .ok (.dup, 1) := dk_89 (dk_at dksX1_horseOf_4 12 rfl rfl)
theorem dX1_horseOf_102 : decode cX1_horseOf 102 = .ok (.iload_n 1, 1) := dk_27 (dk_at dksX1_horseOf_4 13 rfl rfl)
theorem dX1_horseOf_103 : decode cX1_horseOf 103 = .ok (.invokespecial 24, 3) := dk_183 0 24 (dk_at dksX1_horseOf_4 14 rfl rfl)
theorem dX1_horseOf_106 : decode cX1_horseOf 106 = .ok (.areturn, 1) := dk_176 (dk_at dksX1_horseOf_4 17 rfl rfl)
theorem dX1_horseOf_107 : decode cX1_horseOf 107 = .ok (.new 25, 3) := dk_187 0 25 (dk_at dksX1_horseOf_4 18 rfl rfl)
theorem dX1_horseOf_110 : decode cX1_horseOf 110 = .ok (.dup, 1) := dk_89 (dk_at dksX1_horseOf_4 21 rfl rfl)
theorem dX1_horseOf_111 : decode cX1_horseOf 111 = .ok (.iload_n 1, 1) := dk_27 (dk_at dksX1_horseOf_4 22 rfl rfl)
theorem dX1_horseOf_112 : decode cX1_horseOf 112 = .ok (.invokespecial 27, 3) := dk_183 0 27 (dk_at dksX1_horseOf_5 0 rfl rfl)
theorem dX1_horseOf_115 : decode cX1_horseOf 115 = .ok (.areturn, 1) := dk_176 (dk_at dksX1_horseOf_5 3 rfl rfl)
abbrev cX1_horse : ByteArray := prog_1_method_12_code
def yX1_horse : MethodName := ⟨RX1, "horse", "(II)I"⟩
def dkwX1_horse_4 : List UInt8 := [172, 42, 180, 0, 101, 27, 182, 0, 161, 172, 45, 182, 0, 164, 172, 2, 172]
abbrev dktX1_horse_4 : List UInt8 := dkwX1_horse_4 ++ []
def dkwX1_horse_3 : List UInt8 := [180, 0, 155, 27, 46, 172, 42, 180, 0, 101, 180, 0, 79, 27, 46, 172, 42, 180, 0, 101, 27, 182, 0, 157]
abbrev dktX1_horse_3 : List UInt8 := dkwX1_horse_3 ++ dktX1_horse_4
def dkwX1_horse_2 : List UInt8 := [45, 182, 0, 145, 172, 45, 180, 0, 149, 172, 42, 180, 0, 101, 180, 0, 152, 27, 46, 172, 42, 180, 0, 101]
abbrev dktX1_horse_2 : List UInt8 := dkwX1_horse_2 ++ dktX1_horse_3
def dkwX1_horse_1 : List UInt8 := [170, 0, 0, 0, 0, 0, 0, 111, 0, 0, 0, 0, 0, 0, 0, 7, 0, 0, 0, 48, 0, 0, 0, 53, 0, 0, 0, 58, 0, 0, 0, 68, 0, 0, 0, 78, 0, 0, 0, 88, 0, 0, 0, 97, 0, 0, 0, 106]
abbrev dktX1_horse_1 : List UInt8 := dkwX1_horse_1 ++ dktX1_horse_2
def dkwX1_horse_0 : List UInt8 := [42, 180, 0, 101, 27, 182, 0, 69, 154, 0, 5, 2, 172, 42, 180, 0, 101, 180, 0, 141, 27, 50, 78, 28]
abbrev dktX1_horse_0 : List UInt8 := dkwX1_horse_0 ++ dktX1_horse_1
theorem dksX1_horse_0 : cX1_horse.data.toList.drop 0 = dktX1_horse_0 := by decide +kernel
theorem dksX1_horse_1 : cX1_horse.data.toList.drop 24 = dktX1_horse_1 := dk_seg dksX1_horse_0 24 rfl rfl
theorem dksX1_horse_2 : cX1_horse.data.toList.drop 72 = dktX1_horse_2 := dk_seg dksX1_horse_1 48 rfl rfl
theorem dksX1_horse_3 : cX1_horse.data.toList.drop 96 = dktX1_horse_3 := dk_seg dksX1_horse_2 24 rfl rfl
theorem dksX1_horse_4 : cX1_horse.data.toList.drop 120 = dktX1_horse_4 := dk_seg dksX1_horse_3 24 rfl rfl
theorem dX1_horse_0 : decode cX1_horse 0 = .ok (.aload_n 0, 1) := dk_42 (dk_at dksX1_horse_0 0 rfl rfl)
theorem dX1_horse_1 : decode cX1_horse 1 = .ok (.getfield 101, 3) := dk_180 0 101 (dk_at dksX1_horse_0 1 rfl rfl)
theorem dX1_horse_4 : decode cX1_horse 4 = .ok (.iload_n 1, 1) := dk_27 (dk_at dksX1_horse_0 4 rfl rfl)
theorem dX1_horse_5 : decode cX1_horse 5 = .ok (.invokevirtual 69, 3) := dk_182 0 69 (dk_at dksX1_horse_0 5 rfl rfl)
theorem dX1_horse_8 : decode cX1_horse 8 = .ok (.ifCond .ne 5, 3) := dk_154 0 5 (dk_at dksX1_horse_0 8 rfl rfl)
theorem dX1_horse_11 : decode cX1_horse 11 = .ok (.iconst (-1), 1) := dk_2 (dk_at dksX1_horse_0 11 rfl rfl)
theorem dX1_horse_12 : decode cX1_horse 12 = .ok (.ireturn, 1) := dk_172 (dk_at dksX1_horse_0 12 rfl rfl)
theorem dX1_horse_13 : decode cX1_horse 13 = .ok (.aload_n 0, 1) := dk_42 (dk_at dksX1_horse_0 13 rfl rfl)
theorem dX1_horse_14 : decode cX1_horse 14 = .ok (.getfield 101, 3) := dk_180 0 101 (dk_at dksX1_horse_0 14 rfl rfl)
theorem dX1_horse_17 : decode cX1_horse 17 = .ok (.getfield 141, 3) := dk_180 0 141 (dk_at dksX1_horse_0 17 rfl rfl)
theorem dX1_horse_20 : decode cX1_horse 20 = .ok (.iload_n 1, 1) := dk_27 (dk_at dksX1_horse_0 20 rfl rfl)
theorem dX1_horse_21 : decode cX1_horse 21 = .ok (.aaload, 1) := dk_50 (dk_at dksX1_horse_0 21 rfl rfl)
theorem dX1_horse_22 : decode cX1_horse 22 = .ok (.astore_n 3, 1) := dk_78 (dk_at dksX1_horse_0 22 rfl rfl)
theorem dX1_horse_23 : decode cX1_horse 23 = .ok (.iload_n 2, 1) := dk_28 (dk_at dksX1_horse_0 23 rfl rfl)
theorem dX1_horse_24 : decode cX1_horse 24 = .ok (.tableswitch 111 0 7 #[48, 53, 58, 68, 78, 88, 97, 106], 48) := by decide +kernel
theorem dX1_horse_72 : decode cX1_horse 72 = .ok (.aload_n 3, 1) := dk_45 (dk_at dksX1_horse_2 0 rfl rfl)
theorem dX1_horse_73 : decode cX1_horse 73 = .ok (.invokevirtual 145, 3) := dk_182 0 145 (dk_at dksX1_horse_2 1 rfl rfl)
theorem dX1_horse_76 : decode cX1_horse 76 = .ok (.ireturn, 1) := dk_172 (dk_at dksX1_horse_2 4 rfl rfl)
theorem dX1_horse_77 : decode cX1_horse 77 = .ok (.aload_n 3, 1) := dk_45 (dk_at dksX1_horse_2 5 rfl rfl)
theorem dX1_horse_78 : decode cX1_horse 78 = .ok (.getfield 149, 3) := dk_180 0 149 (dk_at dksX1_horse_2 6 rfl rfl)
theorem dX1_horse_81 : decode cX1_horse 81 = .ok (.ireturn, 1) := dk_172 (dk_at dksX1_horse_2 9 rfl rfl)
theorem dX1_horse_82 : decode cX1_horse 82 = .ok (.aload_n 0, 1) := dk_42 (dk_at dksX1_horse_2 10 rfl rfl)
theorem dX1_horse_83 : decode cX1_horse 83 = .ok (.getfield 101, 3) := dk_180 0 101 (dk_at dksX1_horse_2 11 rfl rfl)
theorem dX1_horse_86 : decode cX1_horse 86 = .ok (.getfield 152, 3) := dk_180 0 152 (dk_at dksX1_horse_2 14 rfl rfl)
theorem dX1_horse_89 : decode cX1_horse 89 = .ok (.iload_n 1, 1) := dk_27 (dk_at dksX1_horse_2 17 rfl rfl)
theorem dX1_horse_90 : decode cX1_horse 90 = .ok (.iaload, 1) := dk_46 (dk_at dksX1_horse_2 18 rfl rfl)
theorem dX1_horse_91 : decode cX1_horse 91 = .ok (.ireturn, 1) := dk_172 (dk_at dksX1_horse_2 19 rfl rfl)
theorem dX1_horse_92 : decode cX1_horse 92 = .ok (.aload_n 0, 1) := dk_42 (dk_at dksX1_horse_2 20 rfl rfl)
theorem dX1_horse_93 : decode cX1_horse 93 = .ok (.getfield 101, 3) := dk_180 0 101 (dk_at dksX1_horse_2 21 rfl rfl)
theorem dX1_horse_96 : decode cX1_horse 96 = .ok (.getfield 155, 3) := dk_180 0 155 (dk_at dksX1_horse_3 0 rfl rfl)
theorem dX1_horse_99 : decode cX1_horse 99 = .ok (.iload_n 1, 1) := dk_27 (dk_at dksX1_horse_3 3 rfl rfl)
theorem dX1_horse_100 : decode cX1_horse 100 = .ok (.iaload, 1) := dk_46 (dk_at dksX1_horse_3 4 rfl rfl)
theorem dX1_horse_101 : decode cX1_horse 101 = .ok (.ireturn, 1) := dk_172 (dk_at dksX1_horse_3 5 rfl rfl)
theorem dX1_horse_102 : decode cX1_horse 102 = .ok (.aload_n 0, 1) := dk_42 (dk_at dksX1_horse_3 6 rfl rfl)
theorem dX1_horse_103 : decode cX1_horse 103 = .ok (.getfield 101, 3) := dk_180 0 101 (dk_at dksX1_horse_3 7 rfl rfl)
theorem dX1_horse_106 : decode cX1_horse 106 = .ok (.getfield 79, 3) := dk_180 0 79 (dk_at dksX1_horse_3 10 rfl rfl)
theorem dX1_horse_109 : decode cX1_horse 109 = .ok (.iload_n 1, 1) := dk_27 (dk_at dksX1_horse_3 13 rfl rfl)
theorem dX1_horse_110 : decode cX1_horse 110 = .ok (.iaload, 1) := dk_46 (dk_at dksX1_horse_3 14 rfl rfl)
theorem dX1_horse_111 : decode cX1_horse 111 = .ok (.ireturn, 1) := dk_172 (dk_at dksX1_horse_3 15 rfl rfl)
theorem dX1_horse_112 : decode cX1_horse 112 = .ok (.aload_n 0, 1) := dk_42 (dk_at dksX1_horse_3 16 rfl rfl)
theorem dX1_horse_113 : decode cX1_horse 113 = .ok (.getfield 101, 3) := dk_180 0 101 (dk_at dksX1_horse_3 17 rfl rfl)
theorem dX1_horse_116 : decode cX1_horse 116 = .ok (.iload_n 1, 1) := dk_27 (dk_at dksX1_horse_3 20 rfl rfl)
theorem dX1_horse_117 : decode cX1_horse 117 = .ok (.invokevirtual 157, 3) := dk_182 0 157 (dk_at dksX1_horse_3 21 rfl rfl)
theorem dX1_horse_120 : decode cX1_horse 120 = .ok (.ireturn, 1) := dk_172 (dk_at dksX1_horse_4 0 rfl rfl)
theorem dX1_horse_121 : decode cX1_horse 121 = .ok (.aload_n 0, 1) := dk_42 (dk_at dksX1_horse_4 1 rfl rfl)
theorem dX1_horse_122 : decode cX1_horse 122 = .ok (.getfield 101, 3) := dk_180 0 101 (dk_at dksX1_horse_4 2 rfl rfl)
theorem dX1_horse_125 : decode cX1_horse 125 = .ok (.iload_n 1, 1) := dk_27 (dk_at dksX1_horse_4 5 rfl rfl)
theorem dX1_horse_126 : decode cX1_horse 126 = .ok (.invokevirtual 161, 3) := dk_182 0 161 (dk_at dksX1_horse_4 6 rfl rfl)
theorem dX1_horse_129 : decode cX1_horse 129 = .ok (.ireturn, 1) := dk_172 (dk_at dksX1_horse_4 9 rfl rfl)
theorem dX1_horse_130 : decode cX1_horse 130 = .ok (.aload_n 3, 1) := dk_45 (dk_at dksX1_horse_4 10 rfl rfl)
theorem dX1_horse_131 : decode cX1_horse 131 = .ok (.invokevirtual 164, 3) := dk_182 0 164 (dk_at dksX1_horse_4 11 rfl rfl)
theorem dX1_horse_134 : decode cX1_horse 134 = .ok (.ireturn, 1) := dk_172 (dk_at dksX1_horse_4 14 rfl rfl)
theorem dX1_horse_135 : decode cX1_horse 135 = .ok (.iconst (-1), 1) := dk_2 (dk_at dksX1_horse_4 15 rfl rfl)
theorem dX1_horse_136 : decode cX1_horse 136 = .ok (.ireturn, 1) := dk_172 (dk_at dksX1_horse_4 16 rfl rfl)
abbrev cX1_comes_2 : ByteArray := prog_1_method_13_code
def yX1_comes_2 : MethodName := ⟨RX1, "comes", "(III)I"⟩
def dkwX1_comes_2_3 : List UInt8 := [182, 0, 52, 172, 58, 4, 16, 244, 172]
abbrev dktX1_comes_2_3 : List UInt8 := dkwX1_comes_2_3 ++ []
def dkwX1_comes_2_2 : List UInt8 := [180, 0, 101, 180, 0, 42, 16, 7, 160, 0, 8, 16, 254, 167, 0, 14, 42, 180, 0, 101, 25, 4, 28, 29]
abbrev dktX1_comes_2_2 : List UInt8 := dkwX1_comes_2_2 ++ dktX1_comes_2_3
def dkwX1_comes_2_1 : List UInt8 := [42, 180, 0, 120, 27, 50, 180, 0, 124, 192, 0, 1, 58, 4, 25, 4, 199, 0, 6, 16, 245, 172, 42]
abbrev dktX1_comes_2_1 : List UInt8 := dkwX1_comes_2_1 ++ dktX1_comes_2_2
def dkwX1_comes_2_0 : List UInt8 := [42, 27, 182, 0, 117, 153, 0, 17, 28, 184, 0, 34, 153, 0, 10, 29, 184, 0, 34, 154, 0, 5, 2, 172]
abbrev dktX1_comes_2_0 : List UInt8 := dkwX1_comes_2_0 ++ dktX1_comes_2_1
theorem dksX1_comes_2_0 : cX1_comes_2.data.toList.drop 0 = dktX1_comes_2_0 := by decide +kernel
theorem dksX1_comes_2_1 : cX1_comes_2.data.toList.drop 24 = dktX1_comes_2_1 := dk_seg dksX1_comes_2_0 24 rfl rfl
theorem dksX1_comes_2_2 : cX1_comes_2.data.toList.drop 47 = dktX1_comes_2_2 := dk_seg dksX1_comes_2_1 23 rfl rfl
theorem dksX1_comes_2_3 : cX1_comes_2.data.toList.drop 71 = dktX1_comes_2_3 := dk_seg dksX1_comes_2_2 24 rfl rfl
theorem dX1_comes_2_0 : decode cX1_comes_2 0 = .ok (.aload_n 0, 1) := dk_42 (dk_at dksX1_comes_2_0 0 rfl rfl)
theorem dX1_comes_2_1 : decode cX1_comes_2 1 = .ok (.iload_n 1, 1) := dk_27 (dk_at dksX1_comes_2_0 1 rfl rfl)
theorem dX1_comes_2_2 : decode cX1_comes_2 2 = .ok (.invokevirtual 117, 3) := dk_182 0 117 (dk_at dksX1_comes_2_0 2 rfl rfl)
theorem dX1_comes_2_5 : decode cX1_comes_2 5 = .ok (.ifCond .eq 17, 3) := dk_153 0 17 (dk_at dksX1_comes_2_0 5 rfl rfl)
theorem dX1_comes_2_8 : decode cX1_comes_2 8 = .ok (.iload_n 2, 1) := dk_28 (dk_at dksX1_comes_2_0 8 rfl rfl)
theorem dX1_comes_2_9 : decode cX1_comes_2 9 = .ok (.invokestatic 34, 3) := dk_184 0 34 (dk_at dksX1_comes_2_0 9 rfl rfl)
theorem dX1_comes_2_12 : decode cX1_comes_2 12 = .ok (.ifCond .eq 10, 3) := dk_153 0 10 (dk_at dksX1_comes_2_0 12 rfl rfl)
theorem dX1_comes_2_15 : decode cX1_comes_2 15 = .ok (.iload_n 3, 1) := dk_29 (dk_at dksX1_comes_2_0 15 rfl rfl)
theorem dX1_comes_2_16 : decode cX1_comes_2 16 = .ok (.invokestatic 34, 3) := dk_184 0 34 (dk_at dksX1_comes_2_0 16 rfl rfl)
theorem dX1_comes_2_19 : decode cX1_comes_2 19 = .ok (.ifCond .ne 5, 3) := dk_154 0 5 (dk_at dksX1_comes_2_0 19 rfl rfl)
theorem dX1_comes_2_22 : decode cX1_comes_2 22 = .ok (.iconst (-1), 1) := dk_2 (dk_at dksX1_comes_2_0 22 rfl rfl)
theorem dX1_comes_2_23 : decode cX1_comes_2 23 = .ok (.ireturn, 1) := dk_172 (dk_at dksX1_comes_2_0 23 rfl rfl)
theorem dX1_comes_2_24 : decode cX1_comes_2 24 = .ok (.aload_n 0, 1) := dk_42 (dk_at dksX1_comes_2_1 0 rfl rfl)
theorem dX1_comes_2_25 : decode cX1_comes_2 25 = .ok (.getfield 120, 3) := dk_180 0 120 (dk_at dksX1_comes_2_1 1 rfl rfl)
theorem dX1_comes_2_28 : decode cX1_comes_2 28 = .ok (.iload_n 1, 1) := dk_27 (dk_at dksX1_comes_2_1 4 rfl rfl)
theorem dX1_comes_2_29 : decode cX1_comes_2 29 = .ok (.aaload, 1) := dk_50 (dk_at dksX1_comes_2_1 5 rfl rfl)
theorem dX1_comes_2_30 : decode cX1_comes_2 30 = .ok (.getfield 124, 3) := dk_180 0 124 (dk_at dksX1_comes_2_1 6 rfl rfl)
theorem dX1_comes_2_33 : decode cX1_comes_2 33 = .ok (.checkcast 1, 3) := dk_192 0 1 (dk_at dksX1_comes_2_1 9 rfl rfl)
theorem dX1_comes_2_36 : decode cX1_comes_2 36 = .ok (.astore 4, 2) := dk_58 4 (dk_at dksX1_comes_2_1 12 rfl rfl)
theorem dX1_comes_2_38 : decode cX1_comes_2 38 = .ok (.aload 4, 2) := dk_25 4 (dk_at dksX1_comes_2_1 14 rfl rfl)
theorem dX1_comes_2_40 : decode cX1_comes_2 40 = .ok (.ifnonnull 6, 3) := dk_199 0 6 (dk_at dksX1_comes_2_1 16 rfl rfl)
theorem dX1_comes_2_43 : decode cX1_comes_2 43 = .ok (.bipush (-11), 2) := dk_16 245 (dk_at dksX1_comes_2_1 19 rfl rfl)
theorem dX1_comes_2_45 : decode cX1_comes_2 45 = .ok (.ireturn, 1) := dk_172 (dk_at dksX1_comes_2_1 21 rfl rfl)
theorem dX1_comes_2_46 : decode cX1_comes_2 46 = .ok (.aload_n 0, 1) := dk_42 (dk_at dksX1_comes_2_1 22 rfl rfl)
theorem dX1_comes_2_47 : decode cX1_comes_2 47 = .ok (.getfield 101, 3) := dk_180 0 101 (dk_at dksX1_comes_2_2 0 rfl rfl)
theorem dX1_comes_2_50 : decode cX1_comes_2 50 = .ok (.getfield 42, 3) := dk_180 0 42 (dk_at dksX1_comes_2_2 3 rfl rfl)
theorem dX1_comes_2_53 : decode cX1_comes_2 53 = .ok (.bipush 7, 2) := dk_16 7 (dk_at dksX1_comes_2_2 6 rfl rfl)
theorem dX1_comes_2_55 : decode cX1_comes_2 55 = .ok (.if_icmp .ne 8, 3) := dk_160 0 8 (dk_at dksX1_comes_2_2 8 rfl rfl)
theorem dX1_comes_2_58 : decode cX1_comes_2 58 = .ok (.bipush (-2), 2) := dk_16 254 (dk_at dksX1_comes_2_2 11 rfl rfl)
theorem dX1_comes_2_60 : decode cX1_comes_2 60 = .ok (.goto 14, 3) := dk_167 0 14 (dk_at dksX1_comes_2_2 13 rfl rfl)
theorem dX1_comes_2_63 : decode cX1_comes_2 63 = .ok (.aload_n 0, 1) := dk_42 (dk_at dksX1_comes_2_2 16 rfl rfl)
theorem dX1_comes_2_64 : decode cX1_comes_2 64 = .ok (.getfield 101, 3) := dk_180 0 101 (dk_at dksX1_comes_2_2 17 rfl rfl)
theorem dX1_comes_2_67 : decode cX1_comes_2 67 = .ok (.aload 4, 2) := dk_25 4 (dk_at dksX1_comes_2_2 20 rfl rfl)
theorem dX1_comes_2_69 : decode cX1_comes_2 69 = .ok (.iload_n 2, 1) := dk_28 (dk_at dksX1_comes_2_2 22 rfl rfl)
theorem dX1_comes_2_70 : decode cX1_comes_2 70 = .ok (.iload_n 3, 1) := dk_29 (dk_at dksX1_comes_2_2 23 rfl rfl)
theorem dX1_comes_2_71 : decode cX1_comes_2 71 = .ok (.invokevirtual 52, 3) := dk_182 0 52 (dk_at dksX1_comes_2_3 0 rfl rfl)
theorem dX1_comes_2_74 : decode cX1_comes_2 74 = .ok (.ireturn, 1) := dk_172 (dk_at dksX1_comes_2_3 3 rfl rfl)
theorem dX1_comes_2_75 : decode cX1_comes_2 75 = .ok (.astore 4, 2) := dk_58 4 (dk_at dksX1_comes_2_3 4 rfl rfl)
theorem dX1_comes_2_77 : decode cX1_comes_2 77 = .ok (.bipush (-12), 2) := dk_16 244 (dk_at dksX1_comes_2_3 6 rfl rfl)
theorem dX1_comes_2_79 : decode cX1_comes_2 79 = .ok (.ireturn, 1) := dk_172 (dk_at dksX1_comes_2_3 8 rfl rfl)
abbrev cX1_rides : ByteArray := prog_1_method_15_code
def yX1_rides : MethodName := ⟨RX1, "rides", "(II)I"⟩
def dkwX1_rides_2 : List UInt8 := [16, 253, 172, 42, 180, 0, 101, 42, 180, 0, 38, 182, 0, 104, 29, 172]
abbrev dktX1_rides_2 : List UInt8 := dkwX1_rides_2 ++ []
def dkwX1_rides_1 : List UInt8 := [42, 180, 0, 38, 27, 28, 182, 0, 72, 62, 42, 180, 0, 38, 180, 0, 76, 17, 3, 231, 164, 0, 6]
abbrev dktX1_rides_1 : List UInt8 := dkwX1_rides_1 ++ dktX1_rides_2
def dkwX1_rides_0 : List UInt8 := [42, 180, 0, 101, 27, 182, 0, 69, 153, 0, 10, 28, 184, 0, 34, 154, 0, 5, 2, 172, 42, 182, 0, 167]
abbrev dktX1_rides_0 : List UInt8 := dkwX1_rides_0 ++ dktX1_rides_1
theorem dksX1_rides_0 : cX1_rides.data.toList.drop 0 = dktX1_rides_0 := by decide +kernel
theorem dksX1_rides_1 : cX1_rides.data.toList.drop 24 = dktX1_rides_1 := dk_seg dksX1_rides_0 24 rfl rfl
theorem dksX1_rides_2 : cX1_rides.data.toList.drop 47 = dktX1_rides_2 := dk_seg dksX1_rides_1 23 rfl rfl
theorem dX1_rides_0 : decode cX1_rides 0 = .ok (.aload_n 0, 1) := dk_42 (dk_at dksX1_rides_0 0 rfl rfl)
theorem dX1_rides_1 : decode cX1_rides 1 = .ok (.getfield 101, 3) := dk_180 0 101 (dk_at dksX1_rides_0 1 rfl rfl)
theorem dX1_rides_4 : decode cX1_rides 4 = .ok (.iload_n 1, 1) := dk_27 (dk_at dksX1_rides_0 4 rfl rfl)
theorem dX1_rides_5 : decode cX1_rides 5 = .ok (.invokevirtual 69, 3) := dk_182 0 69 (dk_at dksX1_rides_0 5 rfl rfl)
theorem dX1_rides_8 : decode cX1_rides 8 = .ok (.ifCond .eq 10, 3) := dk_153 0 10 (dk_at dksX1_rides_0 8 rfl rfl)
theorem dX1_rides_11 : decode cX1_rides 11 = .ok (.iload_n 2, 1) := dk_28 (dk_at dksX1_rides_0 11 rfl rfl)
theorem dX1_rides_12 : decode cX1_rides 12 = .ok (.invokestatic 34, 3) := dk_184 0 34 (dk_at dksX1_rides_0 12 rfl rfl)
theorem dX1_rides_15 : decode cX1_rides 15 = .ok (.ifCond .ne 5, 3) := dk_154 0 5 (dk_at dksX1_rides_0 15 rfl rfl)
theorem dX1_rides_18 : decode cX1_rides 18 = .ok (.iconst (-1), 1) := dk_2 (dk_at dksX1_rides_0 18 rfl rfl)
theorem dX1_rides_19 : decode cX1_rides 19 = .ok (.ireturn, 1) := dk_172 (dk_at dksX1_rides_0 19 rfl rfl)
theorem dX1_rides_20 : decode cX1_rides 20 = .ok (.aload_n 0, 1) := dk_42 (dk_at dksX1_rides_0 20 rfl rfl)
theorem dX1_rides_21 : decode cX1_rides 21 = .ok (.invokevirtual 167, 3) := dk_182 0 167 (dk_at dksX1_rides_0 21 rfl rfl)
theorem dX1_rides_24 : decode cX1_rides 24 = .ok (.aload_n 0, 1) := dk_42 (dk_at dksX1_rides_1 0 rfl rfl)
theorem dX1_rides_25 : decode cX1_rides 25 = .ok (.getfield 38, 3) := dk_180 0 38 (dk_at dksX1_rides_1 1 rfl rfl)
theorem dX1_rides_28 : decode cX1_rides 28 = .ok (.iload_n 1, 1) := dk_27 (dk_at dksX1_rides_1 4 rfl rfl)
theorem dX1_rides_29 : decode cX1_rides 29 = .ok (.iload_n 2, 1) := dk_28 (dk_at dksX1_rides_1 5 rfl rfl)
theorem dX1_rides_30 : decode cX1_rides 30 = .ok (.invokevirtual 72, 3) := dk_182 0 72 (dk_at dksX1_rides_1 6 rfl rfl)
theorem dX1_rides_33 : decode cX1_rides 33 = .ok (.istore_n 3, 1) := dk_62 (dk_at dksX1_rides_1 9 rfl rfl)
theorem dX1_rides_34 : decode cX1_rides 34 = .ok (.aload_n 0, 1) := dk_42 (dk_at dksX1_rides_1 10 rfl rfl)
theorem dX1_rides_35 : decode cX1_rides 35 = .ok (.getfield 38, 3) := dk_180 0 38 (dk_at dksX1_rides_1 11 rfl rfl)
theorem dX1_rides_38 : decode cX1_rides 38 = .ok (.getfield 76, 3) := dk_180 0 76 (dk_at dksX1_rides_1 14 rfl rfl)
theorem dX1_rides_41 : decode cX1_rides 41 = .ok (.sipush 999, 3) := dk_17 3 231 (dk_at dksX1_rides_1 17 rfl rfl)
theorem dX1_rides_44 : decode cX1_rides 44 = .ok (.if_icmp .le 6, 3) := dk_164 0 6 (dk_at dksX1_rides_1 20 rfl rfl)
theorem dX1_rides_47 : decode cX1_rides 47 = .ok (.bipush (-3), 2) := dk_16 253 (dk_at dksX1_rides_2 0 rfl rfl)
theorem dX1_rides_49 : decode cX1_rides 49 = .ok (.ireturn, 1) := dk_172 (dk_at dksX1_rides_2 2 rfl rfl)
theorem dX1_rides_50 : decode cX1_rides 50 = .ok (.aload_n 0, 1) := dk_42 (dk_at dksX1_rides_2 3 rfl rfl)
theorem dX1_rides_51 : decode cX1_rides 51 = .ok (.getfield 101, 3) := dk_180 0 101 (dk_at dksX1_rides_2 4 rfl rfl)
theorem dX1_rides_54 : decode cX1_rides 54 = .ok (.aload_n 0, 1) := dk_42 (dk_at dksX1_rides_2 7 rfl rfl)
theorem dX1_rides_55 : decode cX1_rides 55 = .ok (.getfield 38, 3) := dk_180 0 38 (dk_at dksX1_rides_2 8 rfl rfl)
theorem dX1_rides_58 : decode cX1_rides 58 = .ok (.invokevirtual 104, 3) := dk_182 0 104 (dk_at dksX1_rides_2 11 rfl rfl)
theorem dX1_rides_61 : decode cX1_rides 61 = .ok (.iload_n 3, 1) := dk_29 (dk_at dksX1_rides_2 14 rfl rfl)
theorem dX1_rides_62 : decode cX1_rides 62 = .ok (.ireturn, 1) := dk_172 (dk_at dksX1_rides_2 15 rfl rfl)
abbrev cX1_minds : ByteArray := prog_1_method_14_code
def yX1_minds : MethodName := ⟨RX1, "minds", "()V"⟩
def dkwX1_minds_0 : List UInt8 := [42, 180, 0, 38, 42, 180, 0, 101, 182, 0, 104, 177]
abbrev dktX1_minds_0 : List UInt8 := dkwX1_minds_0 ++ []
theorem dksX1_minds_0 : cX1_minds.data.toList.drop 0 = dktX1_minds_0 := by decide +kernel
theorem dX1_minds_0 : decode cX1_minds 0 = .ok (.aload_n 0, 1) := dk_42 (dk_at dksX1_minds_0 0 rfl rfl)
theorem dX1_minds_1 : decode cX1_minds 1 = .ok (.getfield 38, 3) := dk_180 0 38 (dk_at dksX1_minds_0 1 rfl rfl)
theorem dX1_minds_4 : decode cX1_minds 4 = .ok (.aload_n 0, 1) := dk_42 (dk_at dksX1_minds_0 4 rfl rfl)
theorem dX1_minds_5 : decode cX1_minds 5 = .ok (.getfield 101, 3) := dk_180 0 101 (dk_at dksX1_minds_0 5 rfl rfl)
theorem dX1_minds_8 : decode cX1_minds 8 = .ok (.invokevirtual 104, 3) := dk_182 0 104 (dk_at dksX1_minds_0 8 rfl rfl)
theorem dX1_minds_11 : decode cX1_minds 11 = .ok (.return_, 1) := dk_177 (dk_at dksX1_minds_0 11 rfl rfl)
abbrev cX1_taken : ByteArray := prog_1_method_16_code
def yX1_taken : MethodName := ⟨RX1, "taken", "(II)I"⟩
def dkwX1_taken_1 : List UInt8 := [180, 0, 155, 27, 46, 62, 42, 180, 0, 101, 180, 0, 155, 27, 28, 79, 29, 172]
abbrev dktX1_taken_1 : List UInt8 := dkwX1_taken_1 ++ []
def dkwX1_taken_0 : List UInt8 := [42, 180, 0, 101, 27, 182, 0, 69, 153, 0, 10, 28, 184, 0, 34, 154, 0, 5, 2, 172, 42, 180, 0, 101]
abbrev dktX1_taken_0 : List UInt8 := dkwX1_taken_0 ++ dktX1_taken_1
theorem dksX1_taken_0 : cX1_taken.data.toList.drop 0 = dktX1_taken_0 := by decide +kernel
theorem dksX1_taken_1 : cX1_taken.data.toList.drop 24 = dktX1_taken_1 := dk_seg dksX1_taken_0 24 rfl rfl
theorem dX1_taken_0 : decode cX1_taken 0 = .ok (.aload_n 0, 1) := dk_42 (dk_at dksX1_taken_0 0 rfl rfl)
theorem dX1_taken_1 : decode cX1_taken 1 = .ok (.getfield 101, 3) := dk_180 0 101 (dk_at dksX1_taken_0 1 rfl rfl)
theorem dX1_taken_4 : decode cX1_taken 4 = .ok (.iload_n 1, 1) := dk_27 (dk_at dksX1_taken_0 4 rfl rfl)
theorem dX1_taken_5 : decode cX1_taken 5 = .ok (.invokevirtual 69, 3) := dk_182 0 69 (dk_at dksX1_taken_0 5 rfl rfl)
theorem dX1_taken_8 : decode cX1_taken 8 = .ok (.ifCond .eq 10, 3) := dk_153 0 10 (dk_at dksX1_taken_0 8 rfl rfl)
theorem dX1_taken_11 : decode cX1_taken 11 = .ok (.iload_n 2, 1) := dk_28 (dk_at dksX1_taken_0 11 rfl rfl)
theorem dX1_taken_12 : decode cX1_taken 12 = .ok (.invokestatic 34, 3) := dk_184 0 34 (dk_at dksX1_taken_0 12 rfl rfl)
theorem dX1_taken_15 : decode cX1_taken 15 = .ok (.ifCond .ne 5, 3) := dk_154 0 5 (dk_at dksX1_taken_0 15 rfl rfl)
theorem dX1_taken_18 : decode cX1_taken 18 = .ok (.iconst (-1), 1) := dk_2 (dk_at dksX1_taken_0 18 rfl rfl)
theorem dX1_taken_19 : decode cX1_taken 19 = .ok (.ireturn, 1) := dk_172 (dk_at dksX1_taken_0 19 rfl rfl)
theorem dX1_taken_20 : decode cX1_taken 20 = .ok (.aload_n 0, 1) := dk_42 (dk_at dksX1_taken_0 20 rfl rfl)
theorem dX1_taken_21 : decode cX1_taken 21 = .ok (.getfield 101, 3) := dk_180 0 101 (dk_at dksX1_taken_0 21 rfl rfl)
theorem dX1_taken_24 : decode cX1_taken 24 = .ok (.getfield 155, 3) := dk_180 0 155 (dk_at dksX1_taken_1 0 rfl rfl)
theorem dX1_taken_27 : decode cX1_taken 27 = .ok (.iload_n 1, 1) := dk_27 (dk_at dksX1_taken_1 3 rfl rfl)
theorem dX1_taken_28 : decode cX1_taken 28 = .ok (.iaload, 1) := dk_46 (dk_at dksX1_taken_1 4 rfl rfl)
theorem dX1_taken_29 : decode cX1_taken 29 = .ok (.istore_n 3, 1) := dk_62 (dk_at dksX1_taken_1 5 rfl rfl)
theorem dX1_taken_30 : decode cX1_taken 30 = .ok (.aload_n 0, 1) := dk_42 (dk_at dksX1_taken_1 6 rfl rfl)
theorem dX1_taken_31 : decode cX1_taken 31 = .ok (.getfield 101, 3) := dk_180 0 101 (dk_at dksX1_taken_1 7 rfl rfl)
theorem dX1_taken_34 : decode cX1_taken 34 = .ok (.getfield 155, 3) := dk_180 0 155 (dk_at dksX1_taken_1 10 rfl rfl)
theorem dX1_taken_37 : decode cX1_taken 37 = .ok (.iload_n 1, 1) := dk_27 (dk_at dksX1_taken_1 13 rfl rfl)
theorem dX1_taken_38 : decode cX1_taken 38 = .ok (.iload_n 2, 1) := dk_28 (dk_at dksX1_taken_1 14 rfl rfl)
theorem dX1_taken_39 : decode cX1_taken 39 = .ok (.iastore, 1) := dk_79 (dk_at dksX1_taken_1 15 rfl rfl)
theorem dX1_taken_40 : decode cX1_taken 40 = .ok (.iload_n 3, 1) := dk_29 (dk_at dksX1_taken_1 16 rfl rfl)
theorem dX1_taken_41 : decode cX1_taken 41 = .ok (.ireturn, 1) := dk_172 (dk_at dksX1_taken_1 17 rfl rfl)
abbrev cX1_longs : ByteArray := prog_1_method_17_code
def yX1_longs : MethodName := ⟨RX1, "longs", "(II)I"⟩
def dkwX1_longs_1 : List UInt8 := [180, 0, 101, 180, 0, 79, 27, 46, 62, 42, 180, 0, 101, 180, 0, 79, 27, 28, 79, 29, 172]
abbrev dktX1_longs_1 : List UInt8 := dkwX1_longs_1 ++ []
def dkwX1_longs_0 : List UInt8 := [42, 180, 0, 101, 27, 182, 0, 69, 153, 0, 13, 28, 3, 16, 99, 184, 0, 30, 154, 0, 5, 2, 172, 42]
abbrev dktX1_longs_0 : List UInt8 := dkwX1_longs_0 ++ dktX1_longs_1
theorem dksX1_longs_0 : cX1_longs.data.toList.drop 0 = dktX1_longs_0 := by decide +kernel
theorem dksX1_longs_1 : cX1_longs.data.toList.drop 24 = dktX1_longs_1 := dk_seg dksX1_longs_0 24 rfl rfl
theorem dX1_longs_0 : decode cX1_longs 0 = .ok (.aload_n 0, 1) := dk_42 (dk_at dksX1_longs_0 0 rfl rfl)
theorem dX1_longs_1 : decode cX1_longs 1 = .ok (.getfield 101, 3) := dk_180 0 101 (dk_at dksX1_longs_0 1 rfl rfl)
theorem dX1_longs_4 : decode cX1_longs 4 = .ok (.iload_n 1, 1) := dk_27 (dk_at dksX1_longs_0 4 rfl rfl)
theorem dX1_longs_5 : decode cX1_longs 5 = .ok (.invokevirtual 69, 3) := dk_182 0 69 (dk_at dksX1_longs_0 5 rfl rfl)
theorem dX1_longs_8 : decode cX1_longs 8 = .ok (.ifCond .eq 13, 3) := dk_153 0 13 (dk_at dksX1_longs_0 8 rfl rfl)
theorem dX1_longs_11 : decode cX1_longs 11 = .ok (.iload_n 2, 1) := dk_28 (dk_at dksX1_longs_0 11 rfl rfl)
theorem dX1_longs_12 : decode cX1_longs 12 = .ok (.iconst 0, 1) := dk_3 (dk_at dksX1_longs_0 12 rfl rfl)
theorem dX1_longs_13 : decode cX1_longs 13 = .ok (.bipush 99, 2) := dk_16 99 (dk_at dksX1_longs_0 13 rfl rfl)
theorem dX1_longs_15 : decode cX1_longs 15 = .ok (.invokestatic 30, 3) := dk_184 0 30 (dk_at dksX1_longs_0 15 rfl rfl)
theorem dX1_longs_18 : decode cX1_longs 18 = .ok (.ifCond .ne 5, 3) := dk_154 0 5 (dk_at dksX1_longs_0 18 rfl rfl)
theorem dX1_longs_21 : decode cX1_longs 21 = .ok (.iconst (-1), 1) := dk_2 (dk_at dksX1_longs_0 21 rfl rfl)
theorem dX1_longs_22 : decode cX1_longs 22 = .ok (.ireturn, 1) := dk_172 (dk_at dksX1_longs_0 22 rfl rfl)
theorem dX1_longs_23 : decode cX1_longs 23 = .ok (.aload_n 0, 1) := dk_42 (dk_at dksX1_longs_0 23 rfl rfl)
theorem dX1_longs_24 : decode cX1_longs 24 = .ok (.getfield 101, 3) := dk_180 0 101 (dk_at dksX1_longs_1 0 rfl rfl)
theorem dX1_longs_27 : decode cX1_longs 27 = .ok (.getfield 79, 3) := dk_180 0 79 (dk_at dksX1_longs_1 3 rfl rfl)
theorem dX1_longs_30 : decode cX1_longs 30 = .ok (.iload_n 1, 1) := dk_27 (dk_at dksX1_longs_1 6 rfl rfl)
theorem dX1_longs_31 : decode cX1_longs 31 = .ok (.iaload, 1) := dk_46 (dk_at dksX1_longs_1 7 rfl rfl)
theorem dX1_longs_32 : decode cX1_longs 32 = .ok (.istore_n 3, 1) := dk_62 (dk_at dksX1_longs_1 8 rfl rfl)
theorem dX1_longs_33 : decode cX1_longs 33 = .ok (.aload_n 0, 1) := dk_42 (dk_at dksX1_longs_1 9 rfl rfl)
theorem dX1_longs_34 : decode cX1_longs 34 = .ok (.getfield 101, 3) := dk_180 0 101 (dk_at dksX1_longs_1 10 rfl rfl)
theorem dX1_longs_37 : decode cX1_longs 37 = .ok (.getfield 79, 3) := dk_180 0 79 (dk_at dksX1_longs_1 13 rfl rfl)
theorem dX1_longs_40 : decode cX1_longs 40 = .ok (.iload_n 1, 1) := dk_27 (dk_at dksX1_longs_1 16 rfl rfl)
theorem dX1_longs_41 : decode cX1_longs 41 = .ok (.iload_n 2, 1) := dk_28 (dk_at dksX1_longs_1 17 rfl rfl)
theorem dX1_longs_42 : decode cX1_longs 42 = .ok (.iastore, 1) := dk_79 (dk_at dksX1_longs_1 18 rfl rfl)
theorem dX1_longs_43 : decode cX1_longs 43 = .ok (.iload_n 3, 1) := dk_29 (dk_at dksX1_longs_1 19 rfl rfl)
theorem dX1_longs_44 : decode cX1_longs 44 = .ok (.ireturn, 1) := dk_172 (dk_at dksX1_longs_1 20 rfl rfl)
abbrev cX1_hangs : ByteArray := prog_1_method_18_code
def yX1_hangs : MethodName := ⟨RX1, "hangs", "(I)I"⟩
def dkwX1_hangs_1 : List UInt8 := [181, 0, 82, 28, 172]
abbrev dktX1_hangs_1 : List UInt8 := dkwX1_hangs_1 ++ []
def dkwX1_hangs_0 : List UInt8 := [27, 184, 0, 34, 154, 0, 5, 2, 172, 42, 180, 0, 101, 180, 0, 82, 61, 42, 180, 0, 101, 27]
abbrev dktX1_hangs_0 : List UInt8 := dkwX1_hangs_0 ++ dktX1_hangs_1
theorem dksX1_hangs_0 : cX1_hangs.data.toList.drop 0 = dktX1_hangs_0 := by decide +kernel
theorem dksX1_hangs_1 : cX1_hangs.data.toList.drop 22 = dktX1_hangs_1 := dk_seg dksX1_hangs_0 22 rfl rfl
theorem dX1_hangs_0 : decode cX1_hangs 0 = .ok (.iload_n 1, 1) := dk_27 (dk_at dksX1_hangs_0 0 rfl rfl)
theorem dX1_hangs_1 : decode cX1_hangs 1 = .ok (.invokestatic 34, 3) := dk_184 0 34 (dk_at dksX1_hangs_0 1 rfl rfl)
theorem dX1_hangs_4 : decode cX1_hangs 4 = .ok (.ifCond .ne 5, 3) := dk_154 0 5 (dk_at dksX1_hangs_0 4 rfl rfl)
theorem dX1_hangs_7 : decode cX1_hangs 7 = .ok (.iconst (-1), 1) := dk_2 (dk_at dksX1_hangs_0 7 rfl rfl)
theorem dX1_hangs_8 : decode cX1_hangs 8 = .ok (.ireturn, 1) := dk_172 (dk_at dksX1_hangs_0 8 rfl rfl)
theorem dX1_hangs_9 : decode cX1_hangs 9 = .ok (.aload_n 0, 1) := dk_42 (dk_at dksX1_hangs_0 9 rfl rfl)
theorem dX1_hangs_10 : decode cX1_hangs 10 = .ok (.getfield 101, 3) := dk_180 0 101 (dk_at dksX1_hangs_0 10 rfl rfl)
theorem dX1_hangs_13 : decode cX1_hangs 13 = .ok (.getfield 82, 3) := dk_180 0 82 (dk_at dksX1_hangs_0 13 rfl rfl)
theorem dX1_hangs_16 : decode cX1_hangs 16 = .ok (.istore_n 2, 1) := dk_61 (dk_at dksX1_hangs_0 16 rfl rfl)
theorem dX1_hangs_17 : decode cX1_hangs 17 = .ok (.aload_n 0, 1) := dk_42 (dk_at dksX1_hangs_0 17 rfl rfl)
theorem dX1_hangs_18 : decode cX1_hangs 18 = .ok (.getfield 101, 3) := dk_180 0 101 (dk_at dksX1_hangs_0 18 rfl rfl)
theorem dX1_hangs_21 : decode cX1_hangs 21 = .ok (.iload_n 1, 1) := dk_27 (dk_at dksX1_hangs_0 21 rfl rfl)
theorem dX1_hangs_22 : decode cX1_hangs 22 = .ok (.putfield 82, 3) := dk_181 0 82 (dk_at dksX1_hangs_1 0 rfl rfl)
theorem dX1_hangs_25 : decode cX1_hangs 25 = .ok (.iload_n 2, 1) := dk_28 (dk_at dksX1_hangs_1 3 rfl rfl)
theorem dX1_hangs_26 : decode cX1_hangs 26 = .ok (.ireturn, 1) := dk_172 (dk_at dksX1_hangs_1 4 rfl rfl)
abbrev cX1_days : ByteArray := prog_1_method_19_code
def yX1_days : MethodName := ⟨RX1, "days", "(I)I"⟩
def dkwX1_days_1 : List UInt8 := [164, 0, 6, 16, 253, 172, 42, 180, 0, 101, 27, 182, 0, 85, 42, 180, 0, 101, 182, 0, 171, 172]
abbrev dktX1_days_1 : List UInt8 := dkwX1_days_1 ++ []
def dkwX1_days_0 : List UInt8 := [27, 4, 16, 60, 184, 0, 30, 154, 0, 5, 2, 172, 42, 180, 0, 101, 180, 0, 76, 27, 96, 17, 3, 231]
abbrev dktX1_days_0 : List UInt8 := dkwX1_days_0 ++ dktX1_days_1
theorem dksX1_days_0 : cX1_days.data.toList.drop 0 = dktX1_days_0 := by decide +kernel
theorem dksX1_days_1 : cX1_days.data.toList.drop 24 = dktX1_days_1 := dk_seg dksX1_days_0 24 rfl rfl
theorem dX1_days_0 : decode cX1_days 0 = .ok (.iload_n 1, 1) := dk_27 (dk_at dksX1_days_0 0 rfl rfl)
theorem dX1_days_1 : decode cX1_days 1 = .ok (.iconst 1, 1) := dk_4 (dk_at dksX1_days_0 1 rfl rfl)
theorem dX1_days_2 : decode cX1_days 2 = .ok (.bipush 60, 2) := dk_16 60 (dk_at dksX1_days_0 2 rfl rfl)
theorem dX1_days_4 : decode cX1_days 4 = .ok (.invokestatic 30, 3) := dk_184 0 30 (dk_at dksX1_days_0 4 rfl rfl)
theorem dX1_days_7 : decode cX1_days 7 = .ok (.ifCond .ne 5, 3) := dk_154 0 5 (dk_at dksX1_days_0 7 rfl rfl)
theorem dX1_days_10 : decode cX1_days 10 = .ok (.iconst (-1), 1) := dk_2 (dk_at dksX1_days_0 10 rfl rfl)
theorem dX1_days_11 : decode cX1_days 11 = .ok (.ireturn, 1) := dk_172 (dk_at dksX1_days_0 11 rfl rfl)
theorem dX1_days_12 : decode cX1_days 12 = .ok (.aload_n 0, 1) := dk_42 (dk_at dksX1_days_0 12 rfl rfl)
theorem dX1_days_13 : decode cX1_days 13 = .ok (.getfield 101, 3) := dk_180 0 101 (dk_at dksX1_days_0 13 rfl rfl)
theorem dX1_days_16 : decode cX1_days 16 = .ok (.getfield 76, 3) := dk_180 0 76 (dk_at dksX1_days_0 16 rfl rfl)
theorem dX1_days_19 : decode cX1_days 19 = .ok (.iload_n 1, 1) := dk_27 (dk_at dksX1_days_0 19 rfl rfl)
theorem dX1_days_20 : decode cX1_days 20 = .ok (.iadd, 1) := dk_96 (dk_at dksX1_days_0 20 rfl rfl)
theorem dX1_days_21 : decode cX1_days 21 = .ok (.sipush 999, 3) := dk_17 3 231 (dk_at dksX1_days_0 21 rfl rfl)
theorem dX1_days_24 : decode cX1_days 24 = .ok (.if_icmp .le 6, 3) := dk_164 0 6 (dk_at dksX1_days_1 0 rfl rfl)
theorem dX1_days_27 : decode cX1_days 27 = .ok (.bipush (-3), 2) := dk_16 253 (dk_at dksX1_days_1 3 rfl rfl)
theorem dX1_days_29 : decode cX1_days 29 = .ok (.ireturn, 1) := dk_172 (dk_at dksX1_days_1 5 rfl rfl)
theorem dX1_days_30 : decode cX1_days 30 = .ok (.aload_n 0, 1) := dk_42 (dk_at dksX1_days_1 6 rfl rfl)
theorem dX1_days_31 : decode cX1_days 31 = .ok (.getfield 101, 3) := dk_180 0 101 (dk_at dksX1_days_1 7 rfl rfl)
theorem dX1_days_34 : decode cX1_days 34 = .ok (.iload_n 1, 1) := dk_27 (dk_at dksX1_days_1 10 rfl rfl)
theorem dX1_days_35 : decode cX1_days 35 = .ok (.invokevirtual 85, 3) := dk_182 0 85 (dk_at dksX1_days_1 11 rfl rfl)
theorem dX1_days_38 : decode cX1_days 38 = .ok (.aload_n 0, 1) := dk_42 (dk_at dksX1_days_1 14 rfl rfl)
theorem dX1_days_39 : decode cX1_days 39 = .ok (.getfield 101, 3) := dk_180 0 101 (dk_at dksX1_days_1 15 rfl rfl)
theorem dX1_days_42 : decode cX1_days 42 = .ok (.invokevirtual 171, 3) := dk_182 0 171 (dk_at dksX1_days_1 18 rfl rfl)
theorem dX1_days_45 : decode cX1_days 45 = .ok (.ireturn, 1) := dk_172 (dk_at dksX1_days_1 21 rfl rfl)
abbrev cX1_howLong : ByteArray := prog_1_method_21_code
def yX1_howLong : MethodName := ⟨RX1, "howLong", "(II)I"⟩
def dkwX1_howLong_1 : List UInt8 := [182, 0, 174, 167, 0, 4, 2, 172]
abbrev dktX1_howLong_1 : List UInt8 := dkwX1_howLong_1 ++ []
def dkwX1_howLong_0 : List UInt8 := [42, 180, 0, 101, 27, 182, 0, 69, 153, 0, 20, 28, 184, 0, 34, 153, 0, 13, 42, 27, 28, 3]
abbrev dktX1_howLong_0 : List UInt8 := dkwX1_howLong_0 ++ dktX1_howLong_1
theorem dksX1_howLong_0 : cX1_howLong.data.toList.drop 0 = dktX1_howLong_0 := by decide +kernel
theorem dksX1_howLong_1 : cX1_howLong.data.toList.drop 22 = dktX1_howLong_1 := dk_seg dksX1_howLong_0 22 rfl rfl
theorem dX1_howLong_0 : decode cX1_howLong 0 = .ok (.aload_n 0, 1) := dk_42 (dk_at dksX1_howLong_0 0 rfl rfl)
theorem dX1_howLong_1 : decode cX1_howLong 1 = .ok (.getfield 101, 3) := dk_180 0 101 (dk_at dksX1_howLong_0 1 rfl rfl)
theorem dX1_howLong_4 : decode cX1_howLong 4 = .ok (.iload_n 1, 1) := dk_27 (dk_at dksX1_howLong_0 4 rfl rfl)
theorem dX1_howLong_5 : decode cX1_howLong 5 = .ok (.invokevirtual 69, 3) := dk_182 0 69 (dk_at dksX1_howLong_0 5 rfl rfl)
theorem dX1_howLong_8 : decode cX1_howLong 8 = .ok (.ifCond .eq 20, 3) := dk_153 0 20 (dk_at dksX1_howLong_0 8 rfl rfl)
theorem dX1_howLong_11 : decode cX1_howLong 11 = .ok (.iload_n 2, 1) := dk_28 (dk_at dksX1_howLong_0 11 rfl rfl)
theorem dX1_howLong_12 : decode cX1_howLong 12 = .ok (.invokestatic 34, 3) := dk_184 0 34 (dk_at dksX1_howLong_0 12 rfl rfl)
theorem dX1_howLong_15 : decode cX1_howLong 15 = .ok (.ifCond .eq 13, 3) := dk_153 0 13 (dk_at dksX1_howLong_0 15 rfl rfl)
theorem dX1_howLong_18 : decode cX1_howLong 18 = .ok (.aload_n 0, 1) := dk_42 (dk_at dksX1_howLong_0 18 rfl rfl)
theorem dX1_howLong_19 : decode cX1_howLong 19 = .ok (.iload_n 1, 1) := dk_27 (dk_at dksX1_howLong_0 19 rfl rfl)
theorem dX1_howLong_20 : decode cX1_howLong 20 = .ok (.iload_n 2, 1) := dk_28 (dk_at dksX1_howLong_0 20 rfl rfl)
theorem dX1_howLong_21 : decode cX1_howLong 21 = .ok (.iconst 0, 1) := dk_3 (dk_at dksX1_howLong_0 21 rfl rfl)
theorem dX1_howLong_22 : decode cX1_howLong 22 = .ok (.invokevirtual 174, 3) := dk_182 0 174 (dk_at dksX1_howLong_1 0 rfl rfl)
theorem dX1_howLong_25 : decode cX1_howLong 25 = .ok (.goto 4, 3) := dk_167 0 4 (dk_at dksX1_howLong_1 3 rfl rfl)
theorem dX1_howLong_28 : decode cX1_howLong 28 = .ok (.iconst (-1), 1) := dk_2 (dk_at dksX1_howLong_1 6 rfl rfl)
theorem dX1_howLong_29 : decode cX1_howLong 29 = .ok (.ireturn, 1) := dk_172 (dk_at dksX1_howLong_1 7 rfl rfl)
abbrev cX1_takesBehind : ByteArray := prog_1_method_20_code
def yX1_takesBehind : MethodName := ⟨RX1, "takesBehind", "(III)I"⟩
def dkwX1_takesBehind_0 : List UInt8 := [42, 182, 0, 167, 42, 180, 0, 38, 29, 182, 0, 85, 42, 180, 0, 38, 27, 28, 182, 0, 72, 172]
abbrev dktX1_takesBehind_0 : List UInt8 := dkwX1_takesBehind_0 ++ []
theorem dksX1_takesBehind_0 : cX1_takesBehind.data.toList.drop 0 = dktX1_takesBehind_0 := by decide +kernel
theorem dX1_takesBehind_0 : decode cX1_takesBehind 0 = .ok (.aload_n 0, 1) := dk_42 (dk_at dksX1_takesBehind_0 0 rfl rfl)
theorem dX1_takesBehind_1 : decode cX1_takesBehind 1 = .ok (.invokevirtual 167, 3) := dk_182 0 167 (dk_at dksX1_takesBehind_0 1 rfl rfl)
theorem dX1_takesBehind_4 : decode cX1_takesBehind 4 = .ok (.aload_n 0, 1) := dk_42 (dk_at dksX1_takesBehind_0 4 rfl rfl)
theorem dX1_takesBehind_5 : decode cX1_takesBehind 5 = .ok (.getfield 38, 3) := dk_180 0 38 (dk_at dksX1_takesBehind_0 5 rfl rfl)
theorem dX1_takesBehind_8 : decode cX1_takesBehind 8 = .ok (.iload_n 3, 1) := dk_29 (dk_at dksX1_takesBehind_0 8 rfl rfl)
theorem dX1_takesBehind_9 : decode cX1_takesBehind 9 = .ok (.invokevirtual 85, 3) := dk_182 0 85 (dk_at dksX1_takesBehind_0 9 rfl rfl)
theorem dX1_takesBehind_12 : decode cX1_takesBehind 12 = .ok (.aload_n 0, 1) := dk_42 (dk_at dksX1_takesBehind_0 12 rfl rfl)
theorem dX1_takesBehind_13 : decode cX1_takesBehind 13 = .ok (.getfield 38, 3) := dk_180 0 38 (dk_at dksX1_takesBehind_0 13 rfl rfl)
theorem dX1_takesBehind_16 : decode cX1_takesBehind 16 = .ok (.iload_n 1, 1) := dk_27 (dk_at dksX1_takesBehind_0 16 rfl rfl)
theorem dX1_takesBehind_17 : decode cX1_takesBehind 17 = .ok (.iload_n 2, 1) := dk_28 (dk_at dksX1_takesBehind_0 17 rfl rfl)
theorem dX1_takesBehind_18 : decode cX1_takesBehind 18 = .ok (.invokevirtual 72, 3) := dk_182 0 72 (dk_at dksX1_takesBehind_0 18 rfl rfl)
theorem dX1_takesBehind_21 : decode cX1_takesBehind 21 = .ok (.ireturn, 1) := dk_172 (dk_at dksX1_takesBehind_0 21 rfl rfl)
abbrev cX1_behind : ByteArray := prog_1_method_22_code
def yX1_behind : MethodName := ⟨RX1, "behind", "(III)I"⟩
def dkwX1_behind_2 : List UInt8 := [180, 0, 38, 180, 0, 79, 27, 46, 167, 0, 11, 42, 180, 0, 38, 27, 182, 0, 161, 172]
abbrev dktX1_behind_2 : List UInt8 := dkwX1_behind_2 ++ []
def dkwX1_behind_1 : List UInt8 := [154, 0, 5, 2, 172, 42, 182, 0, 167, 42, 180, 0, 38, 28, 182, 0, 85, 29, 154, 0, 15, 42]
abbrev dktX1_behind_1 : List UInt8 := dkwX1_behind_1 ++ dktX1_behind_2
def dkwX1_behind_0 : List UInt8 := [42, 180, 0, 101, 27, 182, 0, 69, 153, 0, 19, 28, 184, 0, 178, 153, 0, 12, 29, 3, 4, 184, 0, 30]
abbrev dktX1_behind_0 : List UInt8 := dkwX1_behind_0 ++ dktX1_behind_1
theorem dksX1_behind_0 : cX1_behind.data.toList.drop 0 = dktX1_behind_0 := by decide +kernel
theorem dksX1_behind_1 : cX1_behind.data.toList.drop 24 = dktX1_behind_1 := dk_seg dksX1_behind_0 24 rfl rfl
theorem dksX1_behind_2 : cX1_behind.data.toList.drop 46 = dktX1_behind_2 := dk_seg dksX1_behind_1 22 rfl rfl
theorem dX1_behind_0 : decode cX1_behind 0 = .ok (.aload_n 0, 1) := dk_42 (dk_at dksX1_behind_0 0 rfl rfl)
theorem dX1_behind_1 : decode cX1_behind 1 = .ok (.getfield 101, 3) := dk_180 0 101 (dk_at dksX1_behind_0 1 rfl rfl)
theorem dX1_behind_4 : decode cX1_behind 4 = .ok (.iload_n 1, 1) := dk_27 (dk_at dksX1_behind_0 4 rfl rfl)
theorem dX1_behind_5 : decode cX1_behind 5 = .ok (.invokevirtual 69, 3) := dk_182 0 69 (dk_at dksX1_behind_0 5 rfl rfl)
theorem dX1_behind_8 : decode cX1_behind 8 = .ok (.ifCond .eq 19, 3) := dk_153 0 19 (dk_at dksX1_behind_0 8 rfl rfl)
theorem dX1_behind_11 : decode cX1_behind 11 = .ok (.iload_n 2, 1) := dk_28 (dk_at dksX1_behind_0 11 rfl rfl)
theorem dX1_behind_12 : decode cX1_behind 12 = .ok (.invokestatic 178, 3) := dk_184 0 178 (dk_at dksX1_behind_0 12 rfl rfl)
theorem dX1_behind_15 : decode cX1_behind 15 = .ok (.ifCond .eq 12, 3) := dk_153 0 12 (dk_at dksX1_behind_0 15 rfl rfl)
theorem dX1_behind_18 : decode cX1_behind 18 = .ok (.iload_n 3, 1) := dk_29 (dk_at dksX1_behind_0 18 rfl rfl)
theorem dX1_behind_19 : decode cX1_behind 19 = .ok (.iconst 0, 1) := dk_3 (dk_at dksX1_behind_0 19 rfl rfl)
theorem dX1_behind_20 : decode cX1_behind 20 = .ok (.iconst 1, 1) := dk_4 (dk_at dksX1_behind_0 20 rfl rfl)
theorem dX1_behind_21 : decode cX1_behind 21 = .ok (.invokestatic 30, 3) := dk_184 0 30 (dk_at dksX1_behind_0 21 rfl rfl)
theorem dX1_behind_24 : decode cX1_behind 24 = .ok (.ifCond .ne 5, 3) := dk_154 0 5 (dk_at dksX1_behind_1 0 rfl rfl)
theorem dX1_behind_27 : decode cX1_behind 27 = .ok (.iconst (-1), 1) := dk_2 (dk_at dksX1_behind_1 3 rfl rfl)
theorem dX1_behind_28 : decode cX1_behind 28 = .ok (.ireturn, 1) := dk_172 (dk_at dksX1_behind_1 4 rfl rfl)
theorem dX1_behind_29 : decode cX1_behind 29 = .ok (.aload_n 0, 1) := dk_42 (dk_at dksX1_behind_1 5 rfl rfl)
theorem dX1_behind_30 : decode cX1_behind 30 = .ok (.invokevirtual 167, 3) := dk_182 0 167 (dk_at dksX1_behind_1 6 rfl rfl)
theorem dX1_behind_33 : decode cX1_behind 33 = .ok (.aload_n 0, 1) := dk_42 (dk_at dksX1_behind_1 9 rfl rfl)
theorem dX1_behind_34 : decode cX1_behind 34 = .ok (.getfield 38, 3) := dk_180 0 38 (dk_at dksX1_behind_1 10 rfl rfl)
theorem dX1_behind_37 : decode cX1_behind 37 = .ok (.iload_n 2, 1) := dk_28 (dk_at dksX1_behind_1 13 rfl rfl)
theorem dX1_behind_38 : decode cX1_behind 38 = .ok (.invokevirtual 85, 3) := dk_182 0 85 (dk_at dksX1_behind_1 14 rfl rfl)
theorem dX1_behind_41 : decode cX1_behind 41 = .ok (.iload_n 3, 1) := dk_29 (dk_at dksX1_behind_1 17 rfl rfl)
theorem dX1_behind_42 : decode cX1_behind 42 = .ok (.ifCond .ne 15, 3) := dk_154 0 15 (dk_at dksX1_behind_1 18 rfl rfl)
theorem dX1_behind_45 : decode cX1_behind 45 = .ok (.aload_n 0, 1) := dk_42 (dk_at dksX1_behind_1 21 rfl rfl)
theorem dX1_behind_46 : decode cX1_behind 46 = .ok (.getfield 38, 3) := dk_180 0 38 (dk_at dksX1_behind_2 0 rfl rfl)
theorem dX1_behind_49 : decode cX1_behind 49 = .ok (.getfield 79, 3) := dk_180 0 79 (dk_at dksX1_behind_2 3 rfl rfl)
theorem dX1_behind_52 : decode cX1_behind 52 = .ok (.iload_n 1, 1) := dk_27 (dk_at dksX1_behind_2 6 rfl rfl)
theorem dX1_behind_53 : decode cX1_behind 53 = .ok (.iaload, 1) := dk_46 (dk_at dksX1_behind_2 7 rfl rfl)
theorem dX1_behind_54 : decode cX1_behind 54 = .ok (.goto 11, 3) := dk_167 0 11 (dk_at dksX1_behind_2 8 rfl rfl)
theorem dX1_behind_57 : decode cX1_behind 57 = .ok (.aload_n 0, 1) := dk_42 (dk_at dksX1_behind_2 11 rfl rfl)
theorem dX1_behind_58 : decode cX1_behind 58 = .ok (.getfield 38, 3) := dk_180 0 38 (dk_at dksX1_behind_2 12 rfl rfl)
theorem dX1_behind_61 : decode cX1_behind 61 = .ok (.iload_n 1, 1) := dk_27 (dk_at dksX1_behind_2 15 rfl rfl)
theorem dX1_behind_62 : decode cX1_behind 62 = .ok (.invokevirtual 161, 3) := dk_182 0 161 (dk_at dksX1_behind_2 16 rfl rfl)
theorem dX1_behind_65 : decode cX1_behind 65 = .ok (.ireturn, 1) := dk_172 (dk_at dksX1_behind_2 19 rfl rfl)
abbrev cX1_isLong : ByteArray := prog_1_method_7_code
def yX1_isLong : MethodName := ⟨RX1, "isLong", "(I)Z"⟩
def dkwX1_isLong_0 : List UInt8 := [26, 3, 16, 60, 184, 0, 30, 172]
abbrev dktX1_isLong_0 : List UInt8 := dkwX1_isLong_0 ++ []
theorem dksX1_isLong_0 : cX1_isLong.data.toList.drop 0 = dktX1_isLong_0 := by decide +kernel
theorem dX1_isLong_0 : decode cX1_isLong 0 = .ok (.iload_n 0, 1) := dk_26 (dk_at dksX1_isLong_0 0 rfl rfl)
theorem dX1_isLong_1 : decode cX1_isLong 1 = .ok (.iconst 0, 1) := dk_3 (dk_at dksX1_isLong_0 1 rfl rfl)
theorem dX1_isLong_2 : decode cX1_isLong 2 = .ok (.bipush 60, 2) := dk_16 60 (dk_at dksX1_isLong_0 2 rfl rfl)
theorem dX1_isLong_4 : decode cX1_isLong 4 = .ok (.invokestatic 30, 3) := dk_184 0 30 (dk_at dksX1_isLong_0 4 rfl rfl)
theorem dX1_isLong_7 : decode cX1_isLong 7 = .ok (.ireturn, 1) := dk_172 (dk_at dksX1_isLong_0 7 rfl rfl)
abbrev cX1_chain : ByteArray := prog_1_method_25_code
def yX1_chain : MethodName := ⟨RX1, "chain", "(III)I"⟩
def dkwX1_chain_3 : List UInt8 := [16, 252, 167, 0, 18, 29, 154, 0, 10, 42, 180, 0, 185, 167, 0, 7, 42, 180, 0, 188, 172]
abbrev dktX1_chain_3 : List UInt8 := dkwX1_chain_3 ++ []
def dkwX1_chain_2 : List UInt8 := [182, 0, 104, 42, 3, 27, 28, 3, 3, 16, 252, 182, 0, 199, 42, 180, 0, 185, 18, 203, 160, 0, 8]
abbrev dktX1_chain_2 : List UInt8 := dkwX1_chain_2 ++ dktX1_chain_3
def dkwX1_chain_1 : List UInt8 := [172, 42, 18, 203, 181, 0, 185, 42, 16, 252, 181, 0, 188, 42, 180, 0, 191, 3, 50, 42, 180, 0, 101]
abbrev dktX1_chain_1 : List UInt8 := dkwX1_chain_1 ++ dktX1_chain_2
def dkwX1_chain_0 : List UInt8 := [27, 184, 0, 34, 153, 0, 19, 28, 184, 0, 34, 153, 0, 12, 29, 3, 4, 184, 0, 30, 154, 0, 5, 2]
abbrev dktX1_chain_0 : List UInt8 := dkwX1_chain_0 ++ dktX1_chain_1
theorem dksX1_chain_0 : cX1_chain.data.toList.drop 0 = dktX1_chain_0 := by decide +kernel
theorem dksX1_chain_1 : cX1_chain.data.toList.drop 24 = dktX1_chain_1 := dk_seg dksX1_chain_0 24 rfl rfl
theorem dksX1_chain_2 : cX1_chain.data.toList.drop 47 = dktX1_chain_2 := dk_seg dksX1_chain_1 23 rfl rfl
theorem dksX1_chain_3 : cX1_chain.data.toList.drop 70 = dktX1_chain_3 := dk_seg dksX1_chain_2 23 rfl rfl
theorem dX1_chain_0 : decode cX1_chain 0 = .ok (.iload_n 1, 1) := dk_27 (dk_at dksX1_chain_0 0 rfl rfl)
theorem dX1_chain_1 : decode cX1_chain 1 = .ok (.invokestatic 34, 3) := dk_184 0 34 (dk_at dksX1_chain_0 1 rfl rfl)
theorem dX1_chain_4 : decode cX1_chain 4 = .ok (.ifCond .eq 19, 3) := dk_153 0 19 (dk_at dksX1_chain_0 4 rfl rfl)
theorem dX1_chain_7 : decode cX1_chain 7 = .ok (.iload_n 2, 1) := dk_28 (dk_at dksX1_chain_0 7 rfl rfl)
theorem dX1_chain_8 : decode cX1_chain 8 = .ok (.invokestatic 34, 3) := dk_184 0 34 (dk_at dksX1_chain_0 8 rfl rfl)
theorem dX1_chain_11 : decode cX1_chain 11 = .ok (.ifCond .eq 12, 3) := dk_153 0 12 (dk_at dksX1_chain_0 11 rfl rfl)
theorem dX1_chain_14 : decode cX1_chain 14 = .ok (.iload_n 3, 1) := dk_29 (dk_at dksX1_chain_0 14 rfl rfl)
theorem dX1_chain_15 : decode cX1_chain 15 = .ok (.iconst 0, 1) := dk_3 (dk_at dksX1_chain_0 15 rfl rfl)
theorem dX1_chain_16 : decode cX1_chain 16 = .ok (.iconst 1, 1) := dk_4 (dk_at dksX1_chain_0 16 rfl rfl)
theorem dX1_chain_17 : decode cX1_chain 17 = .ok (.invokestatic 30, 3) := dk_184 0 30 (dk_at dksX1_chain_0 17 rfl rfl)
theorem dX1_chain_20 : decode cX1_chain 20 = .ok (.ifCond .ne 5, 3) := dk_154 0 5 (dk_at dksX1_chain_0 20 rfl rfl)
theorem dX1_chain_23 : decode cX1_chain 23 = .ok (.iconst (-1), 1) := dk_2 (dk_at dksX1_chain_0 23 rfl rfl)
theorem dX1_chain_24 : decode cX1_chain 24 = .ok (.ireturn, 1) := dk_172 (dk_at dksX1_chain_1 0 rfl rfl)
theorem dX1_chain_25 : decode cX1_chain 25 = .ok (.aload_n 0, 1) := dk_42 (dk_at dksX1_chain_1 1 rfl rfl)
theorem dX1_chain_26 : decode cX1_chain 26 = .ok (.ldc 203, 2) := dk_18 203 (dk_at dksX1_chain_1 2 rfl rfl)
theorem dX1_chain_28 : decode cX1_chain 28 = .ok (.putfield 185, 3) := dk_181 0 185 (dk_at dksX1_chain_1 4 rfl rfl)
theorem dX1_chain_31 : decode cX1_chain 31 = .ok (.aload_n 0, 1) := dk_42 (dk_at dksX1_chain_1 7 rfl rfl)
theorem dX1_chain_32 : decode cX1_chain 32 = .ok (.bipush (-4), 2) := dk_16 252 (dk_at dksX1_chain_1 8 rfl rfl)
theorem dX1_chain_34 : decode cX1_chain 34 = .ok (.putfield 188, 3) := dk_181 0 188 (dk_at dksX1_chain_1 10 rfl rfl)
theorem dX1_chain_37 : decode cX1_chain 37 = .ok (.aload_n 0, 1) := dk_42 (dk_at dksX1_chain_1 13 rfl rfl)
theorem dX1_chain_38 : decode cX1_chain 38 = .ok (.getfield 191, 3) := dk_180 0 191 (dk_at dksX1_chain_1 14 rfl rfl)
theorem dX1_chain_41 : decode cX1_chain 41 = .ok (.iconst 0, 1) := dk_3 (dk_at dksX1_chain_1 17 rfl rfl)
theorem dX1_chain_42 : decode cX1_chain 42 = .ok (.aaload, 1) := dk_50 (dk_at dksX1_chain_1 18 rfl rfl)
theorem dX1_chain_43 : decode cX1_chain 43 = .ok (.aload_n 0, 1) := dk_42 (dk_at dksX1_chain_1 19 rfl rfl)
theorem dX1_chain_44 : decode cX1_chain 44 = .ok (.getfield 101, 3) := dk_180 0 101 (dk_at dksX1_chain_1 20 rfl rfl)
theorem dX1_chain_47 : decode cX1_chain 47 = .ok (.invokevirtual 104, 3) := dk_182 0 104 (dk_at dksX1_chain_2 0 rfl rfl)
theorem dX1_chain_50 : decode cX1_chain 50 = .ok (.aload_n 0, 1) := dk_42 (dk_at dksX1_chain_2 3 rfl rfl)
theorem dX1_chain_51 : decode cX1_chain 51 = .ok (.iconst 0, 1) := dk_3 (dk_at dksX1_chain_2 4 rfl rfl)
theorem dX1_chain_52 : decode cX1_chain 52 = .ok (.iload_n 1, 1) := dk_27 (dk_at dksX1_chain_2 5 rfl rfl)
theorem dX1_chain_53 : decode cX1_chain 53 = .ok (.iload_n 2, 1) := dk_28 (dk_at dksX1_chain_2 6 rfl rfl)
theorem dX1_chain_54 : decode cX1_chain 54 = .ok (.iconst 0, 1) := dk_3 (dk_at dksX1_chain_2 7 rfl rfl)
theorem dX1_chain_55 : decode cX1_chain 55 = .ok (.iconst 0, 1) := dk_3 (dk_at dksX1_chain_2 8 rfl rfl)
theorem dX1_chain_56 : decode cX1_chain 56 = .ok (.bipush (-4), 2) := dk_16 252 (dk_at dksX1_chain_2 9 rfl rfl)
theorem dX1_chain_58 : decode cX1_chain 58 = .ok (.invokevirtual 199, 3) := dk_182 0 199 (dk_at dksX1_chain_2 11 rfl rfl)
theorem dX1_chain_61 : decode cX1_chain 61 = .ok (.aload_n 0, 1) := dk_42 (dk_at dksX1_chain_2 14 rfl rfl)
theorem dX1_chain_62 : decode cX1_chain 62 = .ok (.getfield 185, 3) := dk_180 0 185 (dk_at dksX1_chain_2 15 rfl rfl)
theorem dX1_chain_65 : decode cX1_chain 65 = .ok (.ldc 203, 2) := dk_18 203 (dk_at dksX1_chain_2 18 rfl rfl)
theorem dX1_chain_67 : decode cX1_chain 67 = .ok (.if_icmp .ne 8, 3) := dk_160 0 8 (dk_at dksX1_chain_2 20 rfl rfl)
theorem dX1_chain_70 : decode cX1_chain 70 = .ok (.bipush (-4), 2) := dk_16 252 (dk_at dksX1_chain_3 0 rfl rfl)
theorem dX1_chain_72 : decode cX1_chain 72 = .ok (.goto 18, 3) := dk_167 0 18 (dk_at dksX1_chain_3 2 rfl rfl)
theorem dX1_chain_75 : decode cX1_chain 75 = .ok (.iload_n 3, 1) := dk_29 (dk_at dksX1_chain_3 5 rfl rfl)
theorem dX1_chain_76 : decode cX1_chain 76 = .ok (.ifCond .ne 10, 3) := dk_154 0 10 (dk_at dksX1_chain_3 6 rfl rfl)
theorem dX1_chain_79 : decode cX1_chain 79 = .ok (.aload_n 0, 1) := dk_42 (dk_at dksX1_chain_3 9 rfl rfl)
theorem dX1_chain_80 : decode cX1_chain 80 = .ok (.getfield 185, 3) := dk_180 0 185 (dk_at dksX1_chain_3 10 rfl rfl)
theorem dX1_chain_83 : decode cX1_chain 83 = .ok (.goto 7, 3) := dk_167 0 7 (dk_at dksX1_chain_3 13 rfl rfl)
theorem dX1_chain_86 : decode cX1_chain 86 = .ok (.aload_n 0, 1) := dk_42 (dk_at dksX1_chain_3 16 rfl rfl)
theorem dX1_chain_87 : decode cX1_chain 87 = .ok (.getfield 188, 3) := dk_180 0 188 (dk_at dksX1_chain_3 17 rfl rfl)
theorem dX1_chain_90 : decode cX1_chain 90 = .ok (.ireturn, 1) := dk_172 (dk_at dksX1_chain_3 20 rfl rfl)
abbrev cX1_chainsFrom : ByteArray := prog_1_method_24_code
def yX1_chainsFrom : MethodName := ⟨RX1, "chainsFrom", "(IIIIII)V"⟩
def dkwX1_chainsFrom_8 : List UInt8 := [167, 0, 5, 21, 6, 182, 0, 199, 132, 8, 1, 167, 255, 147, 132, 7, 1, 167, 255, 97, 177]
abbrev dktX1_chainsFrom_8 : List UInt8 := dkwX1_chainsFrom_8 ++ []
def dkwX1_chainsFrom_7 : List UInt8 := [4, 96, 21, 8, 29, 21, 4, 4, 21, 7, 120, 128, 21, 5, 21, 9, 96, 27, 154, 0, 8, 21, 7]
abbrev dktX1_chainsFrom_7 : List UInt8 := dkwX1_chainsFrom_7 ++ dktX1_chainsFrom_8
def dkwX1_chainsFrom_6 : List UInt8 := [27, 50, 182, 0, 104, 42, 180, 0, 191, 27, 4, 96, 50, 21, 7, 21, 8, 182, 0, 72, 54, 9, 42, 27]
abbrev dktX1_chainsFrom_6 : List UInt8 := dkwX1_chainsFrom_6 ++ dktX1_chainsFrom_7
def dkwX1_chainsFrom_5 : List UInt8 := [21, 8, 29, 182, 0, 195, 154, 0, 6, 167, 0, 70, 42, 180, 0, 191, 27, 4, 96, 50, 42, 180, 0, 191]
abbrev dktX1_chainsFrom_5 : List UInt8 := dkwX1_chainsFrom_5 ++ dktX1_chainsFrom_6
def dkwX1_chainsFrom_4 : List UInt8 := [162, 0, 108, 21, 8, 28, 159, 0, 96, 42, 42, 180, 0, 191, 27, 50, 21, 4, 4, 21, 7, 120, 128]
abbrev dktX1_chainsFrom_4 : List UInt8 := dkwX1_chainsFrom_4 ++ dktX1_chainsFrom_5
def dkwX1_chainsFrom_3 : List UInt8 := [27, 50, 180, 0, 155, 21, 7, 46, 28, 159, 0, 6, 167, 0, 118, 3, 54, 8, 21, 8, 16, 21]
abbrev dktX1_chainsFrom_3 : List UInt8 := dkwX1_chainsFrom_3 ++ dktX1_chainsFrom_4
def dkwX1_chainsFrom_2 : List UInt8 := [42, 180, 0, 101, 180, 0, 42, 162, 0, 153, 21, 4, 21, 7, 184, 0, 181, 154, 0, 137, 42, 180, 0, 191]
abbrev dktX1_chainsFrom_2 : List UInt8 := dkwX1_chainsFrom_2 ++ dktX1_chainsFrom_3
def dkwX1_chainsFrom_1 : List UInt8 := [181, 0, 188, 177, 27, 6, 159, 0, 12, 21, 5, 42, 180, 0, 185, 161, 0, 4, 177, 3, 54, 7, 21, 7]
abbrev dktX1_chainsFrom_1 : List UInt8 := dkwX1_chainsFrom_1 ++ dktX1_chainsFrom_2
def dkwX1_chainsFrom_0 : List UInt8 := [28, 29, 160, 0, 26, 21, 5, 42, 180, 0, 185, 161, 0, 4, 177, 42, 21, 5, 181, 0, 185, 42, 21, 6]
abbrev dktX1_chainsFrom_0 : List UInt8 := dkwX1_chainsFrom_0 ++ dktX1_chainsFrom_1
theorem dksX1_chainsFrom_0 : cX1_chainsFrom.data.toList.drop 0 = dktX1_chainsFrom_0 := by decide +kernel
theorem dksX1_chainsFrom_1 : cX1_chainsFrom.data.toList.drop 24 = dktX1_chainsFrom_1 := dk_seg dksX1_chainsFrom_0 24 rfl rfl
theorem dksX1_chainsFrom_2 : cX1_chainsFrom.data.toList.drop 48 = dktX1_chainsFrom_2 := dk_seg dksX1_chainsFrom_1 24 rfl rfl
theorem dksX1_chainsFrom_3 : cX1_chainsFrom.data.toList.drop 72 = dktX1_chainsFrom_3 := dk_seg dksX1_chainsFrom_2 24 rfl rfl
theorem dksX1_chainsFrom_4 : cX1_chainsFrom.data.toList.drop 94 = dktX1_chainsFrom_4 := dk_seg dksX1_chainsFrom_3 22 rfl rfl
theorem dksX1_chainsFrom_5 : cX1_chainsFrom.data.toList.drop 117 = dktX1_chainsFrom_5 := dk_seg dksX1_chainsFrom_4 23 rfl rfl
theorem dksX1_chainsFrom_6 : cX1_chainsFrom.data.toList.drop 141 = dktX1_chainsFrom_6 := dk_seg dksX1_chainsFrom_5 24 rfl rfl
theorem dksX1_chainsFrom_7 : cX1_chainsFrom.data.toList.drop 165 = dktX1_chainsFrom_7 := dk_seg dksX1_chainsFrom_6 24 rfl rfl
theorem dksX1_chainsFrom_8 : cX1_chainsFrom.data.toList.drop 188 = dktX1_chainsFrom_8 := dk_seg dksX1_chainsFrom_7 23 rfl rfl
theorem dX1_chainsFrom_0 : decode cX1_chainsFrom 0 = .ok (.iload_n 2, 1) := dk_28 (dk_at dksX1_chainsFrom_0 0 rfl rfl)
theorem dX1_chainsFrom_1 : decode cX1_chainsFrom 1 = .ok (.iload_n 3, 1) := dk_29 (dk_at dksX1_chainsFrom_0 1 rfl rfl)
theorem dX1_chainsFrom_2 : decode cX1_chainsFrom 2 = .ok (.if_icmp .ne 26, 3) := dk_160 0 26 (dk_at dksX1_chainsFrom_0 2 rfl rfl)
theorem dX1_chainsFrom_5 : decode cX1_chainsFrom 5 = .ok (.iload 5, 2) := dk_21 5 (dk_at dksX1_chainsFrom_0 5 rfl rfl)
theorem dX1_chainsFrom_7 : decode cX1_chainsFrom 7 = .ok (.aload_n 0, 1) := dk_42 (dk_at dksX1_chainsFrom_0 7 rfl rfl)
theorem dX1_chainsFrom_8 : decode cX1_chainsFrom 8 = .ok (.getfield 185, 3) := dk_180 0 185 (dk_at dksX1_chainsFrom_0 8 rfl rfl)
theorem dX1_chainsFrom_11 : decode cX1_chainsFrom 11 = .ok (.if_icmp .lt 4, 3) := dk_161 0 4 (dk_at dksX1_chainsFrom_0 11 rfl rfl)
theorem dX1_chainsFrom_14 : decode cX1_chainsFrom 14 = .ok (.return_, 1) := dk_177 (dk_at dksX1_chainsFrom_0 14 rfl rfl)
theorem dX1_chainsFrom_15 : decode cX1_chainsFrom 15 = .ok (.aload_n 0, 1) := dk_42 (dk_at dksX1_chainsFrom_0 15 rfl rfl)
theorem dX1_chainsFrom_16 : decode cX1_chainsFrom 16 = .ok (.iload 5, 2) := dk_21 5 (dk_at dksX1_chainsFrom_0 16 rfl rfl)
theorem dX1_chainsFrom_18 : decode cX1_chainsFrom 18 = .ok (.putfield 185, 3) := dk_181 0 185 (dk_at dksX1_chainsFrom_0 18 rfl rfl)
theorem dX1_chainsFrom_21 : decode cX1_chainsFrom 21 = .ok (.aload_n 0, 1) := dk_42 (dk_at dksX1_chainsFrom_0 21 rfl rfl)
theorem dX1_chainsFrom_22 : decode cX1_chainsFrom 22 = .ok (.iload 6, 2) := dk_21 6 (dk_at dksX1_chainsFrom_0 22 rfl rfl)
theorem dX1_chainsFrom_24 : decode cX1_chainsFrom 24 = .ok (.putfield 188, 3) := dk_181 0 188 (dk_at dksX1_chainsFrom_1 0 rfl rfl)
theorem dX1_chainsFrom_27 : decode cX1_chainsFrom 27 = .ok (.return_, 1) := dk_177 (dk_at dksX1_chainsFrom_1 3 rfl rfl)
theorem dX1_chainsFrom_28 : decode cX1_chainsFrom 28 = .ok (.iload_n 1, 1) := dk_27 (dk_at dksX1_chainsFrom_1 4 rfl rfl)
theorem dX1_chainsFrom_29 : decode cX1_chainsFrom 29 = .ok (.iconst 3, 1) := dk_6 (dk_at dksX1_chainsFrom_1 5 rfl rfl)
theorem dX1_chainsFrom_30 : decode cX1_chainsFrom 30 = .ok (.if_icmp .eq 12, 3) := dk_159 0 12 (dk_at dksX1_chainsFrom_1 6 rfl rfl)
theorem dX1_chainsFrom_33 : decode cX1_chainsFrom 33 = .ok (.iload 5, 2) := dk_21 5 (dk_at dksX1_chainsFrom_1 9 rfl rfl)
theorem dX1_chainsFrom_35 : decode cX1_chainsFrom 35 = .ok (.aload_n 0, 1) := dk_42 (dk_at dksX1_chainsFrom_1 11 rfl rfl)
theorem dX1_chainsFrom_36 : decode cX1_chainsFrom 36 = .ok (.getfield 185, 3) := dk_180 0 185 (dk_at dksX1_chainsFrom_1 12 rfl rfl)
theorem dX1_chainsFrom_39 : decode cX1_chainsFrom 39 = .ok (.if_icmp .lt 4, 3) := dk_161 0 4 (dk_at dksX1_chainsFrom_1 15 rfl rfl)
theorem dX1_chainsFrom_42 : decode cX1_chainsFrom 42 = .ok (.return_, 1) := dk_177 (dk_at dksX1_chainsFrom_1 18 rfl rfl)
theorem dX1_chainsFrom_43 : decode cX1_chainsFrom 43 = .ok (.iconst 0, 1) := dk_3 (dk_at dksX1_chainsFrom_1 19 rfl rfl)
theorem dX1_chainsFrom_44 : decode cX1_chainsFrom 44 = .ok (.istore 7, 2) := dk_54 7 (dk_at dksX1_chainsFrom_1 20 rfl rfl)
theorem dX1_chainsFrom_46 : decode cX1_chainsFrom 46 = .ok (.iload 7, 2) := dk_21 7 (dk_at dksX1_chainsFrom_1 22 rfl rfl)
theorem dX1_chainsFrom_48 : decode cX1_chainsFrom 48 = .ok (.aload_n 0, 1) := dk_42 (dk_at dksX1_chainsFrom_2 0 rfl rfl)
theorem dX1_chainsFrom_49 : decode cX1_chainsFrom 49 = .ok (.getfield 101, 3) := dk_180 0 101 (dk_at dksX1_chainsFrom_2 1 rfl rfl)
theorem dX1_chainsFrom_52 : decode cX1_chainsFrom 52 = .ok (.getfield 42, 3) := dk_180 0 42 (dk_at dksX1_chainsFrom_2 4 rfl rfl)
theorem dX1_chainsFrom_55 : decode cX1_chainsFrom 55 = .ok (.if_icmp .ge 153, 3) := dk_162 0 153 (dk_at dksX1_chainsFrom_2 7 rfl rfl)
theorem dX1_chainsFrom_58 : decode cX1_chainsFrom 58 = .ok (.iload 4, 2) := dk_21 4 (dk_at dksX1_chainsFrom_2 10 rfl rfl)
theorem dX1_chainsFrom_60 : decode cX1_chainsFrom 60 = .ok (.iload 7, 2) := dk_21 7 (dk_at dksX1_chainsFrom_2 12 rfl rfl)
theorem dX1_chainsFrom_62 : decode cX1_chainsFrom 62 = .ok (.invokestatic 181, 3) := dk_184 0 181 (dk_at dksX1_chainsFrom_2 14 rfl rfl)
theorem dX1_chainsFrom_65 : decode cX1_chainsFrom 65 = .ok (.ifCond .ne 137, 3) := dk_154 0 137 (dk_at dksX1_chainsFrom_2 17 rfl rfl)
theorem dX1_chainsFrom_68 : decode cX1_chainsFrom 68 = .ok (.aload_n 0, 1) := dk_42 (dk_at dksX1_chainsFrom_2 20 rfl rfl)
theorem dX1_chainsFrom_69 : decode cX1_chainsFrom 69 = .ok (.getfield 191, 3) := dk_180 0 191 (dk_at dksX1_chainsFrom_2 21 rfl rfl)
theorem dX1_chainsFrom_72 : decode cX1_chainsFrom 72 = .ok (.iload_n 1, 1) := dk_27 (dk_at dksX1_chainsFrom_3 0 rfl rfl)
theorem dX1_chainsFrom_73 : decode cX1_chainsFrom 73 = .ok (.aaload, 1) := dk_50 (dk_at dksX1_chainsFrom_3 1 rfl rfl)
theorem dX1_chainsFrom_74 : decode cX1_chainsFrom 74 = .ok (.getfield 155, 3) := dk_180 0 155 (dk_at dksX1_chainsFrom_3 2 rfl rfl)
theorem dX1_chainsFrom_77 : decode cX1_chainsFrom 77 = .ok (.iload 7, 2) := dk_21 7 (dk_at dksX1_chainsFrom_3 5 rfl rfl)
theorem dX1_chainsFrom_79 : decode cX1_chainsFrom 79 = .ok (.iaload, 1) := dk_46 (dk_at dksX1_chainsFrom_3 7 rfl rfl)
theorem dX1_chainsFrom_80 : decode cX1_chainsFrom 80 = .ok (.iload_n 2, 1) := dk_28 (dk_at dksX1_chainsFrom_3 8 rfl rfl)
theorem dX1_chainsFrom_81 : decode cX1_chainsFrom 81 = .ok (.if_icmp .eq 6, 3) := dk_159 0 6 (dk_at dksX1_chainsFrom_3 9 rfl rfl)
theorem dX1_chainsFrom_84 : decode cX1_chainsFrom 84 = .ok (.goto 118, 3) := dk_167 0 118 (dk_at dksX1_chainsFrom_3 12 rfl rfl)
theorem dX1_chainsFrom_87 : decode cX1_chainsFrom 87 = .ok (.iconst 0, 1) := dk_3 (dk_at dksX1_chainsFrom_3 15 rfl rfl)
theorem dX1_chainsFrom_88 : decode cX1_chainsFrom 88 = .ok (.istore 8, 2) := dk_54 8 (dk_at dksX1_chainsFrom_3 16 rfl rfl)
theorem dX1_chainsFrom_90 : decode cX1_chainsFrom 90 = .ok (.iload 8, 2) := dk_21 8 (dk_at dksX1_chainsFrom_3 18 rfl rfl)
theorem dX1_chainsFrom_92 : decode cX1_chainsFrom 92 = .ok (.bipush 21, 2) := dk_16 21 (dk_at dksX1_chainsFrom_3 20 rfl rfl)
theorem dX1_chainsFrom_94 : decode cX1_chainsFrom 94 = .ok (.if_icmp .ge 108, 3) := dk_162 0 108 (dk_at dksX1_chainsFrom_4 0 rfl rfl)
theorem dX1_chainsFrom_97 : decode cX1_chainsFrom 97 = .ok (.iload 8, 2) := dk_21 8 (dk_at dksX1_chainsFrom_4 3 rfl rfl)
theorem dX1_chainsFrom_99 : decode cX1_chainsFrom 99 = .ok (.iload_n 2, 1) := dk_28 (dk_at dksX1_chainsFrom_4 5 rfl rfl)
theorem dX1_chainsFrom_100 : decode cX1_chainsFrom 100 = .ok (.if_icmp .eq 96, 3) := dk_159 0 96 (dk_at dksX1_chainsFrom_4 6 rfl rfl)
theorem dX1_chainsFrom_103 : decode cX1_chainsFrom 103 = .ok (.aload_n 0, 1) := dk_42 (dk_at dksX1_chainsFrom_4 9 rfl rfl)
theorem dX1_chainsFrom_104 : decode cX1_chainsFrom 104 = .ok (.aload_n 0, 1) := dk_42 (dk_at dksX1_chainsFrom_4 10 rfl rfl)
theorem dX1_chainsFrom_105 : decode cX1_chainsFrom 105 = .ok (.getfield 191, 3) := dk_180 0 191 (dk_at dksX1_chainsFrom_4 11 rfl rfl)
theorem dX1_chainsFrom_108 : decode cX1_chainsFrom 108 = .ok (.iload_n 1, 1) := dk_27 (dk_at dksX1_chainsFrom_4 14 rfl rfl)
theorem dX1_chainsFrom_109 : decode cX1_chainsFrom 109 = .ok (.aaload, 1) := dk_50 (dk_at dksX1_chainsFrom_4 15 rfl rfl)
theorem dX1_chainsFrom_110 : decode cX1_chainsFrom 110 = .ok (.iload 4, 2) := dk_21 4 (dk_at dksX1_chainsFrom_4 16 rfl rfl)
theorem dX1_chainsFrom_112 : decode cX1_chainsFrom 112 = .ok (.iconst 1, 1) := dk_4 (dk_at dksX1_chainsFrom_4 18 rfl rfl)
theorem dX1_chainsFrom_113 : decode cX1_chainsFrom 113 = .ok (.iload 7, 2) := dk_21 7 (dk_at dksX1_chainsFrom_4 19 rfl rfl)
theorem dX1_chainsFrom_115 : decode cX1_chainsFrom 115 = .ok (.ishl, 1) := dk_120 (dk_at dksX1_chainsFrom_4 21 rfl rfl)
theorem dX1_chainsFrom_116 : decode cX1_chainsFrom 116 = .ok (.ior, 1) := dk_128 (dk_at dksX1_chainsFrom_4 22 rfl rfl)
theorem dX1_chainsFrom_117 : decode cX1_chainsFrom 117 = .ok (.iload 8, 2) := dk_21 8 (dk_at dksX1_chainsFrom_5 0 rfl rfl)
theorem dX1_chainsFrom_119 : decode cX1_chainsFrom 119 = .ok (.iload_n 3, 1) := dk_29 (dk_at dksX1_chainsFrom_5 2 rfl rfl)
theorem dX1_chainsFrom_120 : decode cX1_chainsFrom 120 = .ok (.invokevirtual 195, 3) := dk_182 0 195 (dk_at dksX1_chainsFrom_5 3 rfl rfl)
theorem dX1_chainsFrom_123 : decode cX1_chainsFrom 123 = .ok (.ifCond .ne 6, 3) := dk_154 0 6 (dk_at dksX1_chainsFrom_5 6 rfl rfl)
theorem dX1_chainsFrom_126 : decode cX1_chainsFrom 126 = .ok (.goto 70, 3) := dk_167 0 70 (dk_at dksX1_chainsFrom_5 9 rfl rfl)
theorem dX1_chainsFrom_129 : decode cX1_chainsFrom 129 = .ok (.aload_n 0, 1) := dk_42 (dk_at dksX1_chainsFrom_5 12 rfl rfl)
theorem dX1_chainsFrom_130 : decode cX1_chainsFrom 130 = .ok (.getfield 191, 3) := dk_180 0 191 (dk_at dksX1_chainsFrom_5 13 rfl rfl)
theorem dX1_chainsFrom_133 : decode cX1_chainsFrom 133 = .ok (.iload_n 1, 1) := dk_27 (dk_at dksX1_chainsFrom_5 16 rfl rfl)
theorem dX1_chainsFrom_134 : decode cX1_chainsFrom 134 = .ok (.iconst 1, 1) := dk_4 (dk_at dksX1_chainsFrom_5 17 rfl rfl)
theorem dX1_chainsFrom_135 : decode cX1_chainsFrom 135 = .ok (.iadd, 1) := dk_96 (dk_at dksX1_chainsFrom_5 18 rfl rfl)
theorem dX1_chainsFrom_136 : decode cX1_chainsFrom 136 = .ok (.aaload, 1) := dk_50 (dk_at dksX1_chainsFrom_5 19 rfl rfl)
theorem dX1_chainsFrom_137 : decode cX1_chainsFrom 137 = .ok (.aload_n 0, 1) := dk_42 (dk_at dksX1_chainsFrom_5 20 rfl rfl)
theorem dX1_chainsFrom_138 : decode cX1_chainsFrom 138 = .ok (.getfield 191, 3) := dk_180 0 191 (dk_at dksX1_chainsFrom_5 21 rfl rfl)
theorem dX1_chainsFrom_141 : decode cX1_chainsFrom 141 = .ok (.iload_n 1, 1) := dk_27 (dk_at dksX1_chainsFrom_6 0 rfl rfl)
theorem dX1_chainsFrom_142 : decode cX1_chainsFrom 142 = .ok (.aaload, 1) := dk_50 (dk_at dksX1_chainsFrom_6 1 rfl rfl)
theorem dX1_chainsFrom_143 : decode cX1_chainsFrom 143 = .ok (.invokevirtual 104, 3) := dk_182 0 104 (dk_at dksX1_chainsFrom_6 2 rfl rfl)
theorem dX1_chainsFrom_146 : decode cX1_chainsFrom 146 = .ok (.aload_n 0, 1) := dk_42 (dk_at dksX1_chainsFrom_6 5 rfl rfl)
theorem dX1_chainsFrom_147 : decode cX1_chainsFrom 147 = .ok (.getfield 191, 3) := dk_180 0 191 (dk_at dksX1_chainsFrom_6 6 rfl rfl)
theorem dX1_chainsFrom_150 : decode cX1_chainsFrom 150 = .ok (.iload_n 1, 1) := dk_27 (dk_at dksX1_chainsFrom_6 9 rfl rfl)
theorem dX1_chainsFrom_151 : decode cX1_chainsFrom 151 = .ok (.iconst 1, 1) := dk_4 (dk_at dksX1_chainsFrom_6 10 rfl rfl)
theorem dX1_chainsFrom_152 : decode cX1_chainsFrom 152 = .ok (.iadd, 1) := dk_96 (dk_at dksX1_chainsFrom_6 11 rfl rfl)
theorem dX1_chainsFrom_153 : decode cX1_chainsFrom 153 = .ok (.aaload, 1) := dk_50 (dk_at dksX1_chainsFrom_6 12 rfl rfl)
theorem dX1_chainsFrom_154 : decode cX1_chainsFrom 154 = .ok (.iload 7, 2) := dk_21 7 (dk_at dksX1_chainsFrom_6 13 rfl rfl)
theorem dX1_chainsFrom_156 : decode cX1_chainsFrom 156 = .ok (.iload 8, 2) := dk_21 8 (dk_at dksX1_chainsFrom_6 15 rfl rfl)
theorem dX1_chainsFrom_158 : decode cX1_chainsFrom 158 = .ok (.invokevirtual 72, 3) := dk_182 0 72 (dk_at dksX1_chainsFrom_6 17 rfl rfl)
theorem dX1_chainsFrom_161 : decode cX1_chainsFrom 161 = .ok (.istore 9, 2) := dk_54 9 (dk_at dksX1_chainsFrom_6 20 rfl rfl)
theorem dX1_chainsFrom_163 : decode cX1_chainsFrom 163 = .ok (.aload_n 0, 1) := dk_42 (dk_at dksX1_chainsFrom_6 22 rfl rfl)
theorem dX1_chainsFrom_164 : decode cX1_chainsFrom 164 = .ok (.iload_n 1, 1) := dk_27 (dk_at dksX1_chainsFrom_6 23 rfl rfl)
theorem dX1_chainsFrom_165 : decode cX1_chainsFrom 165 = .ok (.iconst 1, 1) := dk_4 (dk_at dksX1_chainsFrom_7 0 rfl rfl)
theorem dX1_chainsFrom_166 : decode cX1_chainsFrom 166 = .ok (.iadd, 1) := dk_96 (dk_at dksX1_chainsFrom_7 1 rfl rfl)
theorem dX1_chainsFrom_167 : decode cX1_chainsFrom 167 = .ok (.iload 8, 2) := dk_21 8 (dk_at dksX1_chainsFrom_7 2 rfl rfl)
theorem dX1_chainsFrom_169 : decode cX1_chainsFrom 169 = .ok (.iload_n 3, 1) := dk_29 (dk_at dksX1_chainsFrom_7 4 rfl rfl)
theorem dX1_chainsFrom_170 : decode cX1_chainsFrom 170 = .ok (.iload 4, 2) := dk_21 4 (dk_at dksX1_chainsFrom_7 5 rfl rfl)
theorem dX1_chainsFrom_172 : decode cX1_chainsFrom 172 = .ok (.iconst 1, 1) := dk_4 (dk_at dksX1_chainsFrom_7 7 rfl rfl)
theorem dX1_chainsFrom_173 : decode cX1_chainsFrom 173 = .ok (.iload 7, 2) := dk_21 7 (dk_at dksX1_chainsFrom_7 8 rfl rfl)
theorem dX1_chainsFrom_175 : decode cX1_chainsFrom 175 = .ok (.ishl, 1) := dk_120 (dk_at dksX1_chainsFrom_7 10 rfl rfl)
theorem dX1_chainsFrom_176 : decode cX1_chainsFrom 176 = .ok (.ior, 1) := dk_128 (dk_at dksX1_chainsFrom_7 11 rfl rfl)
theorem dX1_chainsFrom_177 : decode cX1_chainsFrom 177 = .ok (.iload 5, 2) := dk_21 5 (dk_at dksX1_chainsFrom_7 12 rfl rfl)
theorem dX1_chainsFrom_179 : decode cX1_chainsFrom 179 = .ok (.iload 9, 2) := dk_21 9 (dk_at dksX1_chainsFrom_7 14 rfl rfl)
theorem dX1_chainsFrom_181 : decode cX1_chainsFrom 181 = .ok (.iadd, 1) := dk_96 (dk_at dksX1_chainsFrom_7 16 rfl rfl)
theorem dX1_chainsFrom_182 : decode cX1_chainsFrom 182 = .ok (.iload_n 1, 1) := dk_27 (dk_at dksX1_chainsFrom_7 17 rfl rfl)
theorem dX1_chainsFrom_183 : decode cX1_chainsFrom 183 = .ok (.ifCond .ne 8, 3) := dk_154 0 8 (dk_at dksX1_chainsFrom_7 18 rfl rfl)
theorem dX1_chainsFrom_186 : decode cX1_chainsFrom 186 = .ok (.iload 7, 2) := dk_21 7 (dk_at dksX1_chainsFrom_7 21 rfl rfl)
theorem dX1_chainsFrom_188 : decode cX1_chainsFrom 188 = .ok (.goto 5, 3) := dk_167 0 5 (dk_at dksX1_chainsFrom_8 0 rfl rfl)
theorem dX1_chainsFrom_191 : decode cX1_chainsFrom 191 = .ok (.iload 6, 2) := dk_21 6 (dk_at dksX1_chainsFrom_8 3 rfl rfl)
theorem dX1_chainsFrom_193 : decode cX1_chainsFrom 193 = .ok (.invokevirtual 199, 3) := dk_182 0 199 (dk_at dksX1_chainsFrom_8 5 rfl rfl)
theorem dX1_chainsFrom_196 : decode cX1_chainsFrom 196 = .ok (.iinc 8 1, 3) := dk_132 8 1 (dk_at dksX1_chainsFrom_8 8 rfl rfl)
theorem dX1_chainsFrom_199 : decode cX1_chainsFrom 199 = .ok (.goto (-109), 3) := dk_167 255 147 (dk_at dksX1_chainsFrom_8 11 rfl rfl)
theorem dX1_chainsFrom_202 : decode cX1_chainsFrom 202 = .ok (.iinc 7 1, 3) := dk_132 7 1 (dk_at dksX1_chainsFrom_8 14 rfl rfl)
theorem dX1_chainsFrom_205 : decode cX1_chainsFrom 205 = .ok (.goto (-159), 3) := dk_167 255 97 (dk_at dksX1_chainsFrom_8 17 rfl rfl)
theorem dX1_chainsFrom_208 : decode cX1_chainsFrom 208 = .ok (.return_, 1) := dk_177 (dk_at dksX1_chainsFrom_8 20 rfl rfl)
abbrev cX1_has : ByteArray := prog_1_method_2_code
def yX1_has : MethodName := ⟨RX1, "has", "(II)Z"⟩
def dkwX1_has_0 : List UInt8 := [26, 27, 122, 4, 126, 4, 160, 0, 7, 4, 167, 0, 4, 3, 172]
abbrev dktX1_has_0 : List UInt8 := dkwX1_has_0 ++ []
theorem dksX1_has_0 : cX1_has.data.toList.drop 0 = dktX1_has_0 := by decide +kernel
theorem dX1_has_0 : decode cX1_has 0 = .ok (.iload_n 0, 1) := dk_26 (dk_at dksX1_has_0 0 rfl rfl)
theorem dX1_has_1 : decode cX1_has 1 = .ok (.iload_n 1, 1) := dk_27 (dk_at dksX1_has_0 1 rfl rfl)
theorem dX1_has_2 : decode cX1_has 2 = .ok (.ishr, 1) := dk_122 (dk_at dksX1_has_0 2 rfl rfl)
theorem dX1_has_3 : decode cX1_has 3 = .ok (.iconst 1, 1) := dk_4 (dk_at dksX1_has_0 3 rfl rfl)
theorem dX1_has_4 : decode cX1_has 4 = .ok (.iand, 1) := dk_126 (dk_at dksX1_has_0 4 rfl rfl)
theorem dX1_has_5 : decode cX1_has 5 = .ok (.iconst 1, 1) := dk_4 (dk_at dksX1_has_0 5 rfl rfl)
theorem dX1_has_6 : decode cX1_has 6 = .ok (.if_icmp .ne 7, 3) := dk_160 0 7 (dk_at dksX1_has_0 6 rfl rfl)
theorem dX1_has_9 : decode cX1_has 9 = .ok (.iconst 1, 1) := dk_4 (dk_at dksX1_has_0 9 rfl rfl)
theorem dX1_has_10 : decode cX1_has 10 = .ok (.goto 4, 3) := dk_167 0 4 (dk_at dksX1_has_0 10 rfl rfl)
theorem dX1_has_13 : decode cX1_has 13 = .ok (.iconst 0, 1) := dk_3 (dk_at dksX1_has_0 13 rfl rfl)
theorem dX1_has_14 : decode cX1_has 14 = .ok (.ireturn, 1) := dk_172 (dk_at dksX1_has_0 14 rfl rfl)
abbrev cX1_isWorthwhile : ByteArray := prog_1_method_23_code
def yX1_isWorthwhile : MethodName := ⟨RX1, "isWorthwhile", "(LHiredByLonging$Land;III)Z"⟩
def dkwX1_isWorthwhile_2 : List UInt8 := [167, 255, 222, 3, 172]
abbrev dktX1_isWorthwhile_2 : List UInt8 := dkwX1_isWorthwhile_2 ++ []
def dkwX1_isWorthwhile_1 : List UInt8 := [184, 0, 181, 154, 0, 16, 43, 180, 0, 155, 21, 5, 46, 29, 160, 0, 5, 4, 172, 132, 5, 1]
abbrev dktX1_isWorthwhile_1 : List UInt8 := dkwX1_isWorthwhile_1 ++ dktX1_isWorthwhile_2
def dkwX1_isWorthwhile_0 : List UInt8 := [29, 21, 4, 160, 0, 5, 4, 172, 3, 54, 5, 21, 5, 43, 180, 0, 42, 162, 0, 31, 28, 21, 5]
abbrev dktX1_isWorthwhile_0 : List UInt8 := dkwX1_isWorthwhile_0 ++ dktX1_isWorthwhile_1
theorem dksX1_isWorthwhile_0 : cX1_isWorthwhile.data.toList.drop 0 = dktX1_isWorthwhile_0 := by decide +kernel
theorem dksX1_isWorthwhile_1 : cX1_isWorthwhile.data.toList.drop 23 = dktX1_isWorthwhile_1 := dk_seg dksX1_isWorthwhile_0 23 rfl rfl
theorem dksX1_isWorthwhile_2 : cX1_isWorthwhile.data.toList.drop 45 = dktX1_isWorthwhile_2 := dk_seg dksX1_isWorthwhile_1 22 rfl rfl
theorem dX1_isWorthwhile_0 : decode cX1_isWorthwhile 0 = .ok (.iload_n 3, 1) := dk_29 (dk_at dksX1_isWorthwhile_0 0 rfl rfl)
theorem dX1_isWorthwhile_1 : decode cX1_isWorthwhile 1 = .ok (.iload 4, 2) := dk_21 4 (dk_at dksX1_isWorthwhile_0 1 rfl rfl)
theorem dX1_isWorthwhile_3 : decode cX1_isWorthwhile 3 = .ok (.if_icmp .ne 5, 3) := dk_160 0 5 (dk_at dksX1_isWorthwhile_0 3 rfl rfl)
theorem dX1_isWorthwhile_6 : decode cX1_isWorthwhile 6 = .ok (.iconst 1, 1) := dk_4 (dk_at dksX1_isWorthwhile_0 6 rfl rfl)
theorem dX1_isWorthwhile_7 : decode cX1_isWorthwhile 7 = .ok (.ireturn, 1) := dk_172 (dk_at dksX1_isWorthwhile_0 7 rfl rfl)
theorem dX1_isWorthwhile_8 : decode cX1_isWorthwhile 8 = .ok (.iconst 0, 1) := dk_3 (dk_at dksX1_isWorthwhile_0 8 rfl rfl)
theorem dX1_isWorthwhile_9 : decode cX1_isWorthwhile 9 = .ok (.istore 5, 2) := dk_54 5 (dk_at dksX1_isWorthwhile_0 9 rfl rfl)
theorem dX1_isWorthwhile_11 : decode cX1_isWorthwhile 11 = .ok (.iload 5, 2) := dk_21 5 (dk_at dksX1_isWorthwhile_0 11 rfl rfl)
theorem dX1_isWorthwhile_13 : decode cX1_isWorthwhile 13 = .ok (.aload_n 1, 1) := dk_43 (dk_at dksX1_isWorthwhile_0 13 rfl rfl)
theorem dX1_isWorthwhile_14 : decode cX1_isWorthwhile 14 = .ok (.getfield 42, 3) := dk_180 0 42 (dk_at dksX1_isWorthwhile_0 14 rfl rfl)
theorem dX1_isWorthwhile_17 : decode cX1_isWorthwhile 17 = .ok (.if_icmp .ge 31, 3) := dk_162 0 31 (dk_at dksX1_isWorthwhile_0 17 rfl rfl)
theorem dX1_isWorthwhile_20 : decode cX1_isWorthwhile 20 = .ok (.iload_n 2, 1) := dk_28 (dk_at dksX1_isWorthwhile_0 20 rfl rfl)
theorem dX1_isWorthwhile_21 : decode cX1_isWorthwhile 21 = .ok (.iload 5, 2) := dk_21 5 (dk_at dksX1_isWorthwhile_0 21 rfl rfl)
theorem dX1_isWorthwhile_23 : decode cX1_isWorthwhile 23 = .ok (.invokestatic 181, 3) := dk_184 0 181 (dk_at dksX1_isWorthwhile_1 0 rfl rfl)
theorem dX1_isWorthwhile_26 : decode cX1_isWorthwhile 26 = .ok (.ifCond .ne 16, 3) := dk_154 0 16 (dk_at dksX1_isWorthwhile_1 3 rfl rfl)
theorem dX1_isWorthwhile_29 : decode cX1_isWorthwhile 29 = .ok (.aload_n 1, 1) := dk_43 (dk_at dksX1_isWorthwhile_1 6 rfl rfl)
theorem dX1_isWorthwhile_30 : decode cX1_isWorthwhile 30 = .ok (.getfield 155, 3) := dk_180 0 155 (dk_at dksX1_isWorthwhile_1 7 rfl rfl)
theorem dX1_isWorthwhile_33 : decode cX1_isWorthwhile 33 = .ok (.iload 5, 2) := dk_21 5 (dk_at dksX1_isWorthwhile_1 10 rfl rfl)
theorem dX1_isWorthwhile_35 : decode cX1_isWorthwhile 35 = .ok (.iaload, 1) := dk_46 (dk_at dksX1_isWorthwhile_1 12 rfl rfl)
theorem dX1_isWorthwhile_36 : decode cX1_isWorthwhile 36 = .ok (.iload_n 3, 1) := dk_29 (dk_at dksX1_isWorthwhile_1 13 rfl rfl)
theorem dX1_isWorthwhile_37 : decode cX1_isWorthwhile 37 = .ok (.if_icmp .ne 5, 3) := dk_160 0 5 (dk_at dksX1_isWorthwhile_1 14 rfl rfl)
theorem dX1_isWorthwhile_40 : decode cX1_isWorthwhile 40 = .ok (.iconst 1, 1) := dk_4 (dk_at dksX1_isWorthwhile_1 17 rfl rfl)
theorem dX1_isWorthwhile_41 : decode cX1_isWorthwhile 41 = .ok (.ireturn, 1) := dk_172 (dk_at dksX1_isWorthwhile_1 18 rfl rfl)
theorem dX1_isWorthwhile_42 : decode cX1_isWorthwhile 42 = .ok (.iinc 5 1, 3) := dk_132 5 1 (dk_at dksX1_isWorthwhile_1 19 rfl rfl)
theorem dX1_isWorthwhile_45 : decode cX1_isWorthwhile 45 = .ok (.goto (-34), 3) := dk_167 255 222 (dk_at dksX1_isWorthwhile_2 0 rfl rfl)
theorem dX1_isWorthwhile_48 : decode cX1_isWorthwhile 48 = .ok (.iconst 0, 1) := dk_3 (dk_at dksX1_isWorthwhile_2 3 rfl rfl)
theorem dX1_isWorthwhile_49 : decode cX1_isWorthwhile 49 = .ok (.ireturn, 1) := dk_172 (dk_at dksX1_isWorthwhile_2 4 rfl rfl)
abbrev cX1_hurry : ByteArray := prog_1_method_26_code
def yX1_hurry : MethodName := ⟨RX1, "hurry", "(II)I"⟩
def dkwX1_hurry_3 : List UInt8 := [54, 4, 132, 5, 1, 167, 255, 210, 28, 154, 0, 7, 29, 167, 0, 5, 21, 4, 172]
abbrev dktX1_hurry_3 : List UInt8 := dkwX1_hurry_3 ++ []
def dkwX1_hurry_2 : List UInt8 := [182, 0, 174, 54, 6, 29, 155, 0, 13, 21, 6, 21, 4, 161, 0, 6, 167, 0, 10, 21, 5, 62, 21, 6]
abbrev dktX1_hurry_2 : List UInt8 := dkwX1_hurry_2 ++ dktX1_hurry_3
def dkwX1_hurry_1 : List UInt8 := [54, 4, 3, 54, 5, 21, 5, 42, 180, 0, 101, 180, 0, 42, 162, 0, 40, 42, 21, 5, 27, 3]
abbrev dktX1_hurry_1 : List UInt8 := dkwX1_hurry_1 ++ dktX1_hurry_2
def dkwX1_hurry_0 : List UInt8 := [27, 184, 0, 34, 153, 0, 12, 28, 3, 4, 184, 0, 30, 154, 0, 5, 2, 172, 16, 252, 62, 16, 252]
abbrev dktX1_hurry_0 : List UInt8 := dkwX1_hurry_0 ++ dktX1_hurry_1
theorem dksX1_hurry_0 : cX1_hurry.data.toList.drop 0 = dktX1_hurry_0 := by decide +kernel
theorem dksX1_hurry_1 : cX1_hurry.data.toList.drop 23 = dktX1_hurry_1 := dk_seg dksX1_hurry_0 23 rfl rfl
theorem dksX1_hurry_2 : cX1_hurry.data.toList.drop 45 = dktX1_hurry_2 := dk_seg dksX1_hurry_1 22 rfl rfl
theorem dksX1_hurry_3 : cX1_hurry.data.toList.drop 69 = dktX1_hurry_3 := dk_seg dksX1_hurry_2 24 rfl rfl
theorem dX1_hurry_0 : decode cX1_hurry 0 = .ok (.iload_n 1, 1) := dk_27 (dk_at dksX1_hurry_0 0 rfl rfl)
theorem dX1_hurry_1 : decode cX1_hurry 1 = .ok (.invokestatic 34, 3) := dk_184 0 34 (dk_at dksX1_hurry_0 1 rfl rfl)
theorem dX1_hurry_4 : decode cX1_hurry 4 = .ok (.ifCond .eq 12, 3) := dk_153 0 12 (dk_at dksX1_hurry_0 4 rfl rfl)
theorem dX1_hurry_7 : decode cX1_hurry 7 = .ok (.iload_n 2, 1) := dk_28 (dk_at dksX1_hurry_0 7 rfl rfl)
theorem dX1_hurry_8 : decode cX1_hurry 8 = .ok (.iconst 0, 1) := dk_3 (dk_at dksX1_hurry_0 8 rfl rfl)
theorem dX1_hurry_9 : decode cX1_hurry 9 = .ok (.iconst 1, 1) := dk_4 (dk_at dksX1_hurry_0 9 rfl rfl)
theorem dX1_hurry_10 : decode cX1_hurry 10 = .ok (.invokestatic 30, 3) := dk_184 0 30 (dk_at dksX1_hurry_0 10 rfl rfl)
theorem dX1_hurry_13 : decode cX1_hurry 13 = .ok (.ifCond .ne 5, 3) := dk_154 0 5 (dk_at dksX1_hurry_0 13 rfl rfl)
theorem dX1_hurry_16 : decode cX1_hurry 16 = .ok (.iconst (-1), 1) := dk_2 (dk_at dksX1_hurry_0 16 rfl rfl)
theorem dX1_hurry_17 : decode cX1_hurry 17 = .ok (.ireturn, 1) := dk_172 (dk_at dksX1_hurry_0 17 rfl rfl)
theorem dX1_hurry_18 : decode cX1_hurry 18 = .ok (.bipush (-4), 2) := dk_16 252 (dk_at dksX1_hurry_0 18 rfl rfl)
theorem dX1_hurry_20 : decode cX1_hurry 20 = .ok (.istore_n 3, 1) := dk_62 (dk_at dksX1_hurry_0 20 rfl rfl)
theorem dX1_hurry_21 : decode cX1_hurry 21 = .ok (.bipush (-4), 2) := dk_16 252 (dk_at dksX1_hurry_0 21 rfl rfl)
theorem dX1_hurry_23 : decode cX1_hurry 23 = .ok (.istore 4, 2) := dk_54 4 (dk_at dksX1_hurry_1 0 rfl rfl)
theorem dX1_hurry_25 : decode cX1_hurry 25 = .ok (.iconst 0, 1) := dk_3 (dk_at dksX1_hurry_1 2 rfl rfl)
theorem dX1_hurry_26 : decode cX1_hurry 26 = .ok (.istore 5, 2) := dk_54 5 (dk_at dksX1_hurry_1 3 rfl rfl)
theorem dX1_hurry_28 : decode cX1_hurry 28 = .ok (.iload 5, 2) := dk_21 5 (dk_at dksX1_hurry_1 5 rfl rfl)
theorem dX1_hurry_30 : decode cX1_hurry 30 = .ok (.aload_n 0, 1) := dk_42 (dk_at dksX1_hurry_1 7 rfl rfl)
theorem dX1_hurry_31 : decode cX1_hurry 31 = .ok (.getfield 101, 3) := dk_180 0 101 (dk_at dksX1_hurry_1 8 rfl rfl)
theorem dX1_hurry_34 : decode cX1_hurry 34 = .ok (.getfield 42, 3) := dk_180 0 42 (dk_at dksX1_hurry_1 11 rfl rfl)
theorem dX1_hurry_37 : decode cX1_hurry 37 = .ok (.if_icmp .ge 40, 3) := dk_162 0 40 (dk_at dksX1_hurry_1 14 rfl rfl)
theorem dX1_hurry_40 : decode cX1_hurry 40 = .ok (.aload_n 0, 1) := dk_42 (dk_at dksX1_hurry_1 17 rfl rfl)
theorem dX1_hurry_41 : decode cX1_hurry 41 = .ok (.iload 5, 2) := dk_21 5 (dk_at dksX1_hurry_1 18 rfl rfl)
theorem dX1_hurry_43 : decode cX1_hurry 43 = .ok (.iload_n 1, 1) := dk_27 (dk_at dksX1_hurry_1 20 rfl rfl)
theorem dX1_hurry_44 : decode cX1_hurry 44 = .ok (.iconst 0, 1) := dk_3 (dk_at dksX1_hurry_1 21 rfl rfl)
theorem dX1_hurry_45 : decode cX1_hurry 45 = .ok (.invokevirtual 174, 3) := dk_182 0 174 (dk_at dksX1_hurry_2 0 rfl rfl)
theorem dX1_hurry_48 : decode cX1_hurry 48 = .ok (.istore 6, 2) := dk_54 6 (dk_at dksX1_hurry_2 3 rfl rfl)
theorem dX1_hurry_50 : decode cX1_hurry 50 = .ok (.iload_n 3, 1) := dk_29 (dk_at dksX1_hurry_2 5 rfl rfl)
theorem dX1_hurry_51 : decode cX1_hurry 51 = .ok (.ifCond .lt 13, 3) := dk_155 0 13 (dk_at dksX1_hurry_2 6 rfl rfl)
theorem dX1_hurry_54 : decode cX1_hurry 54 = .ok (.iload 6, 2) := dk_21 6 (dk_at dksX1_hurry_2 9 rfl rfl)
theorem dX1_hurry_56 : decode cX1_hurry 56 = .ok (.iload 4, 2) := dk_21 4 (dk_at dksX1_hurry_2 11 rfl rfl)
theorem dX1_hurry_58 : decode cX1_hurry 58 = .ok (.if_icmp .lt 6, 3) := dk_161 0 6 (dk_at dksX1_hurry_2 13 rfl rfl)
theorem dX1_hurry_61 : decode cX1_hurry 61 = .ok (.goto 10, 3) := dk_167 0 10 (dk_at dksX1_hurry_2 16 rfl rfl)
theorem dX1_hurry_64 : decode cX1_hurry 64 = .ok (.iload 5, 2) := dk_21 5 (dk_at dksX1_hurry_2 19 rfl rfl)
theorem dX1_hurry_66 : decode cX1_hurry 66 = .ok (.istore_n 3, 1) := dk_62 (dk_at dksX1_hurry_2 21 rfl rfl)
theorem dX1_hurry_67 : decode cX1_hurry 67 = .ok (.iload 6, 2) := dk_21 6 (dk_at dksX1_hurry_2 22 rfl rfl)
theorem dX1_hurry_69 : decode cX1_hurry 69 = .ok (.istore 4, 2) := dk_54 4 (dk_at dksX1_hurry_3 0 rfl rfl)
theorem dX1_hurry_71 : decode cX1_hurry 71 = .ok (.iinc 5 1, 3) := dk_132 5 1 (dk_at dksX1_hurry_3 2 rfl rfl)
theorem dX1_hurry_74 : decode cX1_hurry 74 = .ok (.goto (-46), 3) := dk_167 255 210 (dk_at dksX1_hurry_3 5 rfl rfl)
theorem dX1_hurry_77 : decode cX1_hurry 77 = .ok (.iload_n 2, 1) := dk_28 (dk_at dksX1_hurry_3 8 rfl rfl)
theorem dX1_hurry_78 : decode cX1_hurry 78 = .ok (.ifCond .ne 7, 3) := dk_154 0 7 (dk_at dksX1_hurry_3 9 rfl rfl)
theorem dX1_hurry_81 : decode cX1_hurry 81 = .ok (.iload_n 3, 1) := dk_29 (dk_at dksX1_hurry_3 12 rfl rfl)
theorem dX1_hurry_82 : decode cX1_hurry 82 = .ok (.goto 5, 3) := dk_167 0 5 (dk_at dksX1_hurry_3 13 rfl rfl)
theorem dX1_hurry_85 : decode cX1_hurry 85 = .ok (.iload 4, 2) := dk_21 4 (dk_at dksX1_hurry_3 16 rfl rfl)
theorem dX1_hurry_87 : decode cX1_hurry 87 = .ok (.ireturn, 1) := dk_172 (dk_at dksX1_hurry_3 18 rfl rfl)
abbrev cX1_fastest : ByteArray := prog_1_method_27_code
def yX1_fastest : MethodName := ⟨RX1, "fastest", "(I)I"⟩
def dkwX1_fastest_2 : List UInt8 := [182, 0, 161, 42, 180, 0, 38, 28, 182, 0, 161, 164, 0, 5, 29, 61, 132, 3, 1, 167, 255, 217, 28, 172]
abbrev dktX1_fastest_2 : List UInt8 := dkwX1_fastest_2 ++ []
def dkwX1_fastest_1 : List UInt8 := [3, 62, 29, 42, 180, 0, 38, 180, 0, 42, 162, 0, 34, 28, 155, 0, 22, 42, 180, 0, 38, 29]
abbrev dktX1_fastest_1 : List UInt8 := dkwX1_fastest_1 ++ dktX1_fastest_2
def dkwX1_fastest_0 : List UInt8 := [27, 184, 0, 178, 154, 0, 5, 2, 172, 42, 182, 0, 167, 42, 180, 0, 38, 27, 182, 0, 85, 16, 252, 61]
abbrev dktX1_fastest_0 : List UInt8 := dkwX1_fastest_0 ++ dktX1_fastest_1
theorem dksX1_fastest_0 : cX1_fastest.data.toList.drop 0 = dktX1_fastest_0 := by decide +kernel
theorem dksX1_fastest_1 : cX1_fastest.data.toList.drop 24 = dktX1_fastest_1 := dk_seg dksX1_fastest_0 24 rfl rfl
theorem dksX1_fastest_2 : cX1_fastest.data.toList.drop 46 = dktX1_fastest_2 := dk_seg dksX1_fastest_1 22 rfl rfl
theorem dX1_fastest_0 : decode cX1_fastest 0 = .ok (.iload_n 1, 1) := dk_27 (dk_at dksX1_fastest_0 0 rfl rfl)
theorem dX1_fastest_1 : decode cX1_fastest 1 = .ok (.invokestatic 178, 3) := dk_184 0 178 (dk_at dksX1_fastest_0 1 rfl rfl)
theorem dX1_fastest_4 : decode cX1_fastest 4 = .ok (.ifCond .ne 5, 3) := dk_154 0 5 (dk_at dksX1_fastest_0 4 rfl rfl)
theorem dX1_fastest_7 : decode cX1_fastest 7 = .ok (.iconst (-1), 1) := dk_2 (dk_at dksX1_fastest_0 7 rfl rfl)
theorem dX1_fastest_8 : decode cX1_fastest 8 = .ok (.ireturn, 1) := dk_172 (dk_at dksX1_fastest_0 8 rfl rfl)
theorem dX1_fastest_9 : decode cX1_fastest 9 = .ok (.aload_n 0, 1) := dk_42 (dk_at dksX1_fastest_0 9 rfl rfl)
theorem dX1_fastest_10 : decode cX1_fastest 10 = .ok (.invokevirtual 167, 3) := dk_182 0 167 (dk_at dksX1_fastest_0 10 rfl rfl)
theorem dX1_fastest_13 : decode cX1_fastest 13 = .ok (.aload_n 0, 1) := dk_42 (dk_at dksX1_fastest_0 13 rfl rfl)
theorem dX1_fastest_14 : decode cX1_fastest 14 = .ok (.getfield 38, 3) := dk_180 0 38 (dk_at dksX1_fastest_0 14 rfl rfl)
theorem dX1_fastest_17 : decode cX1_fastest 17 = .ok (.iload_n 1, 1) := dk_27 (dk_at dksX1_fastest_0 17 rfl rfl)
theorem dX1_fastest_18 : decode cX1_fastest 18 = .ok (.invokevirtual 85, 3) := dk_182 0 85 (dk_at dksX1_fastest_0 18 rfl rfl)
theorem dX1_fastest_21 : decode cX1_fastest 21 = .ok (.bipush (-4), 2) := dk_16 252 (dk_at dksX1_fastest_0 21 rfl rfl)
theorem dX1_fastest_23 : decode cX1_fastest 23 = .ok (.istore_n 2, 1) := dk_61 (dk_at dksX1_fastest_0 23 rfl rfl)
theorem dX1_fastest_24 : decode cX1_fastest 24 = .ok (.iconst 0, 1) := dk_3 (dk_at dksX1_fastest_1 0 rfl rfl)
theorem dX1_fastest_25 : decode cX1_fastest 25 = .ok (.istore_n 3, 1) := dk_62 (dk_at dksX1_fastest_1 1 rfl rfl)
theorem dX1_fastest_26 : decode cX1_fastest 26 = .ok (.iload_n 3, 1) := dk_29 (dk_at dksX1_fastest_1 2 rfl rfl)
theorem dX1_fastest_27 : decode cX1_fastest 27 = .ok (.aload_n 0, 1) := dk_42 (dk_at dksX1_fastest_1 3 rfl rfl)
theorem dX1_fastest_28 : decode cX1_fastest 28 = .ok (.getfield 38, 3) := dk_180 0 38 (dk_at dksX1_fastest_1 4 rfl rfl)
theorem dX1_fastest_31 : decode cX1_fastest 31 = .ok (.getfield 42, 3) := dk_180 0 42 (dk_at dksX1_fastest_1 7 rfl rfl)
theorem dX1_fastest_34 : decode cX1_fastest 34 = .ok (.if_icmp .ge 34, 3) := dk_162 0 34 (dk_at dksX1_fastest_1 10 rfl rfl)
theorem dX1_fastest_37 : decode cX1_fastest 37 = .ok (.iload_n 2, 1) := dk_28 (dk_at dksX1_fastest_1 13 rfl rfl)
theorem dX1_fastest_38 : decode cX1_fastest 38 = .ok (.ifCond .lt 22, 3) := dk_155 0 22 (dk_at dksX1_fastest_1 14 rfl rfl)
theorem dX1_fastest_41 : decode cX1_fastest 41 = .ok (.aload_n 0, 1) := dk_42 (dk_at dksX1_fastest_1 17 rfl rfl)
theorem dX1_fastest_42 : decode cX1_fastest 42 = .ok (.getfield 38, 3) := dk_180 0 38 (dk_at dksX1_fastest_1 18 rfl rfl)
theorem dX1_fastest_45 : decode cX1_fastest 45 = .ok (.iload_n 3, 1) := dk_29 (dk_at dksX1_fastest_1 21 rfl rfl)
theorem dX1_fastest_46 : decode cX1_fastest 46 = .ok (.invokevirtual 161, 3) := dk_182 0 161 (dk_at dksX1_fastest_2 0 rfl rfl)
theorem dX1_fastest_49 : decode cX1_fastest 49 = .ok (.aload_n 0, 1) := dk_42 (dk_at dksX1_fastest_2 3 rfl rfl)
theorem dX1_fastest_50 : decode cX1_fastest 50 = .ok (.getfield 38, 3) := dk_180 0 38 (dk_at dksX1_fastest_2 4 rfl rfl)
theorem dX1_fastest_53 : decode cX1_fastest 53 = .ok (.iload_n 2, 1) := dk_28 (dk_at dksX1_fastest_2 7 rfl rfl)
theorem dX1_fastest_54 : decode cX1_fastest 54 = .ok (.invokevirtual 161, 3) := dk_182 0 161 (dk_at dksX1_fastest_2 8 rfl rfl)
theorem dX1_fastest_57 : decode cX1_fastest 57 = .ok (.if_icmp .le 5, 3) := dk_164 0 5 (dk_at dksX1_fastest_2 11 rfl rfl)
theorem dX1_fastest_60 : decode cX1_fastest 60 = .ok (.iload_n 3, 1) := dk_29 (dk_at dksX1_fastest_2 14 rfl rfl)
theorem dX1_fastest_61 : decode cX1_fastest 61 = .ok (.istore_n 2, 1) := dk_61 (dk_at dksX1_fastest_2 15 rfl rfl)
theorem dX1_fastest_62 : decode cX1_fastest 62 = .ok (.iinc 3 1, 3) := dk_132 3 1 (dk_at dksX1_fastest_2 16 rfl rfl)
theorem dX1_fastest_65 : decode cX1_fastest 65 = .ok (.goto (-39), 3) := dk_167 255 217 (dk_at dksX1_fastest_2 19 rfl rfl)
theorem dX1_fastest_68 : decode cX1_fastest 68 = .ok (.iload_n 2, 1) := dk_28 (dk_at dksX1_fastest_2 22 rfl rfl)
theorem dX1_fastest_69 : decode cX1_fastest 69 = .ok (.ireturn, 1) := dk_172 (dk_at dksX1_fastest_2 23 rfl rfl)
abbrev cX1_away : ByteArray := prog_1_method_28_code
def yX1_away : MethodName := ⟨RX1, "away", "()I"⟩
def dkwX1_away_1 : List UInt8 := [153, 0, 7, 3, 167, 0, 6, 4, 28, 120, 128, 60, 132, 2, 1, 167, 255, 221, 27, 172]
abbrev dktX1_away_1 : List UInt8 := dkwX1_away_1 ++ []
def dkwX1_away_0 : List UInt8 := [3, 60, 3, 61, 28, 42, 180, 0, 101, 180, 0, 42, 162, 0, 30, 27, 42, 180, 0, 101, 28, 182, 0, 204]
abbrev dktX1_away_0 : List UInt8 := dkwX1_away_0 ++ dktX1_away_1
theorem dksX1_away_0 : cX1_away.data.toList.drop 0 = dktX1_away_0 := by decide +kernel
theorem dksX1_away_1 : cX1_away.data.toList.drop 24 = dktX1_away_1 := dk_seg dksX1_away_0 24 rfl rfl
theorem dX1_away_0 : decode cX1_away 0 = .ok (.iconst 0, 1) := dk_3 (dk_at dksX1_away_0 0 rfl rfl)
theorem dX1_away_1 : decode cX1_away 1 = .ok (.istore_n 1, 1) := dk_60 (dk_at dksX1_away_0 1 rfl rfl)
theorem dX1_away_2 : decode cX1_away 2 = .ok (.iconst 0, 1) := dk_3 (dk_at dksX1_away_0 2 rfl rfl)
theorem dX1_away_3 : decode cX1_away 3 = .ok (.istore_n 2, 1) := dk_61 (dk_at dksX1_away_0 3 rfl rfl)
theorem dX1_away_4 : decode cX1_away 4 = .ok (.iload_n 2, 1) := dk_28 (dk_at dksX1_away_0 4 rfl rfl)
theorem dX1_away_5 : decode cX1_away 5 = .ok (.aload_n 0, 1) := dk_42 (dk_at dksX1_away_0 5 rfl rfl)
theorem dX1_away_6 : decode cX1_away 6 = .ok (.getfield 101, 3) := dk_180 0 101 (dk_at dksX1_away_0 6 rfl rfl)
theorem dX1_away_9 : decode cX1_away 9 = .ok (.getfield 42, 3) := dk_180 0 42 (dk_at dksX1_away_0 9 rfl rfl)
theorem dX1_away_12 : decode cX1_away 12 = .ok (.if_icmp .ge 30, 3) := dk_162 0 30 (dk_at dksX1_away_0 12 rfl rfl)
theorem dX1_away_15 : decode cX1_away 15 = .ok (.iload_n 1, 1) := dk_27 (dk_at dksX1_away_0 15 rfl rfl)
theorem dX1_away_16 : decode cX1_away 16 = .ok (.aload_n 0, 1) := dk_42 (dk_at dksX1_away_0 16 rfl rfl)
theorem dX1_away_17 : decode cX1_away 17 = .ok (.getfield 101, 3) := dk_180 0 101 (dk_at dksX1_away_0 17 rfl rfl)
theorem dX1_away_20 : decode cX1_away 20 = .ok (.iload_n 2, 1) := dk_28 (dk_at dksX1_away_0 20 rfl rfl)
theorem dX1_away_21 : decode cX1_away 21 = .ok (.invokevirtual 204, 3) := dk_182 0 204 (dk_at dksX1_away_0 21 rfl rfl)
theorem dX1_away_24 : decode cX1_away 24 = .ok (.ifCond .eq 7, 3) := dk_153 0 7 (dk_at dksX1_away_1 0 rfl rfl)
theorem dX1_away_27 : decode cX1_away 27 = .ok (.iconst 0, 1) := dk_3 (dk_at dksX1_away_1 3 rfl rfl)
theorem dX1_away_28 : decode cX1_away 28 = .ok (.goto 6, 3) := dk_167 0 6 (dk_at dksX1_away_1 4 rfl rfl)
theorem dX1_away_31 : decode cX1_away 31 = .ok (.iconst 1, 1) := dk_4 (dk_at dksX1_away_1 7 rfl rfl)
theorem dX1_away_32 : decode cX1_away 32 = .ok (.iload_n 2, 1) := dk_28 (dk_at dksX1_away_1 8 rfl rfl)
theorem dX1_away_33 : decode cX1_away 33 = .ok (.ishl, 1) := dk_120 (dk_at dksX1_away_1 9 rfl rfl)
theorem dX1_away_34 : decode cX1_away 34 = .ok (.ior, 1) := dk_128 (dk_at dksX1_away_1 10 rfl rfl)
theorem dX1_away_35 : decode cX1_away 35 = .ok (.istore_n 1, 1) := dk_60 (dk_at dksX1_away_1 11 rfl rfl)
theorem dX1_away_36 : decode cX1_away 36 = .ok (.iinc 2 1, 3) := dk_132 2 1 (dk_at dksX1_away_1 12 rfl rfl)
theorem dX1_away_39 : decode cX1_away 39 = .ok (.goto (-35), 3) := dk_167 255 221 (dk_at dksX1_away_1 15 rfl rfl)
theorem dX1_away_42 : decode cX1_away 42 = .ok (.iload_n 1, 1) := dk_27 (dk_at dksX1_away_1 18 rfl rfl)
theorem dX1_away_43 : decode cX1_away 43 = .ok (.ireturn, 1) := dk_172 (dk_at dksX1_away_1 19 rfl rfl)
abbrev cX1_ripe : ByteArray := prog_1_method_29_code
def yX1_ripe : MethodName := ⟨RX1, "ripe", "(II)I"⟩
def dkwX1_ripe_2 : List UInt8 := [172, 42, 180, 0, 38, 3, 182, 0, 207, 132, 3, 1, 167, 255, 225, 16, 252, 172]
abbrev dktX1_ripe_2 : List UInt8 := dkwX1_ripe_2 ++ []
def dkwX1_ripe_1 : List UInt8 := [182, 0, 167, 3, 62, 29, 16, 60, 163, 0, 31, 42, 180, 0, 38, 27, 182, 0, 161, 28, 161, 0, 5, 29]
abbrev dktX1_ripe_1 : List UInt8 := dkwX1_ripe_1 ++ dktX1_ripe_2
def dkwX1_ripe_0 : List UInt8 := [42, 180, 0, 101, 27, 182, 0, 69, 153, 0, 13, 28, 4, 16, 60, 184, 0, 30, 154, 0, 5, 2, 172, 42]
abbrev dktX1_ripe_0 : List UInt8 := dkwX1_ripe_0 ++ dktX1_ripe_1
theorem dksX1_ripe_0 : cX1_ripe.data.toList.drop 0 = dktX1_ripe_0 := by decide +kernel
theorem dksX1_ripe_1 : cX1_ripe.data.toList.drop 24 = dktX1_ripe_1 := dk_seg dksX1_ripe_0 24 rfl rfl
theorem dksX1_ripe_2 : cX1_ripe.data.toList.drop 48 = dktX1_ripe_2 := dk_seg dksX1_ripe_1 24 rfl rfl
theorem dX1_ripe_0 : decode cX1_ripe 0 = .ok (.aload_n 0, 1) := dk_42 (dk_at dksX1_ripe_0 0 rfl rfl)
theorem dX1_ripe_1 : decode cX1_ripe 1 = .ok (.getfield 101, 3) := dk_180 0 101 (dk_at dksX1_ripe_0 1 rfl rfl)
theorem dX1_ripe_4 : decode cX1_ripe 4 = .ok (.iload_n 1, 1) := dk_27 (dk_at dksX1_ripe_0 4 rfl rfl)
theorem dX1_ripe_5 : decode cX1_ripe 5 = .ok (.invokevirtual 69, 3) := dk_182 0 69 (dk_at dksX1_ripe_0 5 rfl rfl)
theorem dX1_ripe_8 : decode cX1_ripe 8 = .ok (.ifCond .eq 13, 3) := dk_153 0 13 (dk_at dksX1_ripe_0 8 rfl rfl)
theorem dX1_ripe_11 : decode cX1_ripe 11 = .ok (.iload_n 2, 1) := dk_28 (dk_at dksX1_ripe_0 11 rfl rfl)
theorem dX1_ripe_12 : decode cX1_ripe 12 = .ok (.iconst 1, 1) := dk_4 (dk_at dksX1_ripe_0 12 rfl rfl)
theorem dX1_ripe_13 : decode cX1_ripe 13 = .ok (.bipush 60, 2) := dk_16 60 (dk_at dksX1_ripe_0 13 rfl rfl)
theorem dX1_ripe_15 : decode cX1_ripe 15 = .ok (.invokestatic 30, 3) := dk_184 0 30 (dk_at dksX1_ripe_0 15 rfl rfl)
theorem dX1_ripe_18 : decode cX1_ripe 18 = .ok (.ifCond .ne 5, 3) := dk_154 0 5 (dk_at dksX1_ripe_0 18 rfl rfl)
theorem dX1_ripe_21 : decode cX1_ripe 21 = .ok (.iconst (-1), 1) := dk_2 (dk_at dksX1_ripe_0 21 rfl rfl)
theorem dX1_ripe_22 : decode cX1_ripe 22 = .ok (.ireturn, 1) := dk_172 (dk_at dksX1_ripe_0 22 rfl rfl)
theorem dX1_ripe_23 : decode cX1_ripe 23 = .ok (.aload_n 0, 1) := dk_42 (dk_at dksX1_ripe_0 23 rfl rfl)
theorem dX1_ripe_24 : decode cX1_ripe 24 = .ok (.invokevirtual 167, 3) := dk_182 0 167 (dk_at dksX1_ripe_1 0 rfl rfl)
theorem dX1_ripe_27 : decode cX1_ripe 27 = .ok (.iconst 0, 1) := dk_3 (dk_at dksX1_ripe_1 3 rfl rfl)
theorem dX1_ripe_28 : decode cX1_ripe 28 = .ok (.istore_n 3, 1) := dk_62 (dk_at dksX1_ripe_1 4 rfl rfl)
theorem dX1_ripe_29 : decode cX1_ripe 29 = .ok (.iload_n 3, 1) := dk_29 (dk_at dksX1_ripe_1 5 rfl rfl)
theorem dX1_ripe_30 : decode cX1_ripe 30 = .ok (.bipush 60, 2) := dk_16 60 (dk_at dksX1_ripe_1 6 rfl rfl)
theorem dX1_ripe_32 : decode cX1_ripe 32 = .ok (.if_icmp .gt 31, 3) := dk_163 0 31 (dk_at dksX1_ripe_1 8 rfl rfl)
theorem dX1_ripe_35 : decode cX1_ripe 35 = .ok (.aload_n 0, 1) := dk_42 (dk_at dksX1_ripe_1 11 rfl rfl)
theorem dX1_ripe_36 : decode cX1_ripe 36 = .ok (.getfield 38, 3) := dk_180 0 38 (dk_at dksX1_ripe_1 12 rfl rfl)
theorem dX1_ripe_39 : decode cX1_ripe 39 = .ok (.iload_n 1, 1) := dk_27 (dk_at dksX1_ripe_1 15 rfl rfl)
theorem dX1_ripe_40 : decode cX1_ripe 40 = .ok (.invokevirtual 161, 3) := dk_182 0 161 (dk_at dksX1_ripe_1 16 rfl rfl)
theorem dX1_ripe_43 : decode cX1_ripe 43 = .ok (.iload_n 2, 1) := dk_28 (dk_at dksX1_ripe_1 19 rfl rfl)
theorem dX1_ripe_44 : decode cX1_ripe 44 = .ok (.if_icmp .lt 5, 3) := dk_161 0 5 (dk_at dksX1_ripe_1 20 rfl rfl)
theorem dX1_ripe_47 : decode cX1_ripe 47 = .ok (.iload_n 3, 1) := dk_29 (dk_at dksX1_ripe_1 23 rfl rfl)
theorem dX1_ripe_48 : decode cX1_ripe 48 = .ok (.ireturn, 1) := dk_172 (dk_at dksX1_ripe_2 0 rfl rfl)
theorem dX1_ripe_49 : decode cX1_ripe 49 = .ok (.aload_n 0, 1) := dk_42 (dk_at dksX1_ripe_2 1 rfl rfl)
theorem dX1_ripe_50 : decode cX1_ripe 50 = .ok (.getfield 38, 3) := dk_180 0 38 (dk_at dksX1_ripe_2 2 rfl rfl)
theorem dX1_ripe_53 : decode cX1_ripe 53 = .ok (.iconst 0, 1) := dk_3 (dk_at dksX1_ripe_2 5 rfl rfl)
theorem dX1_ripe_54 : decode cX1_ripe 54 = .ok (.invokevirtual 207, 3) := dk_182 0 207 (dk_at dksX1_ripe_2 6 rfl rfl)
theorem dX1_ripe_57 : decode cX1_ripe 57 = .ok (.iinc 3 1, 3) := dk_132 3 1 (dk_at dksX1_ripe_2 9 rfl rfl)
theorem dX1_ripe_60 : decode cX1_ripe 60 = .ok (.goto (-31), 3) := dk_167 255 225 (dk_at dksX1_ripe_2 12 rfl rfl)
theorem dX1_ripe_63 : decode cX1_ripe 63 = .ok (.bipush (-4), 2) := dk_16 252 (dk_at dksX1_ripe_2 15 rfl rfl)
theorem dX1_ripe_65 : decode cX1_ripe 65 = .ok (.ireturn, 1) := dk_172 (dk_at dksX1_ripe_2 17 rfl rfl)
abbrev cX1_leastLonging : ByteArray := prog_1_method_30_code
def yX1_leastLonging : MethodName := ⟨RX1, "leastLonging", "(III)I"⟩
def dkwX1_leastLonging_3 : List UInt8 := [21, 4, 172, 132, 4, 1, 167, 255, 215, 16, 252, 172]
abbrev dktX1_leastLonging_3 : List UInt8 := dkwX1_leastLonging_3 ++ []
def dkwX1_leastLonging_2 : List UInt8 := [180, 0, 38, 180, 0, 79, 27, 21, 4, 79, 42, 180, 0, 38, 27, 28, 182, 0, 72, 29, 163, 0, 6]
abbrev dktX1_leastLonging_2 : List UInt8 := dkwX1_leastLonging_2 ++ dktX1_leastLonging_3
def dkwX1_leastLonging_1 : List UInt8 := [184, 0, 30, 154, 0, 5, 2, 172, 3, 54, 4, 21, 4, 16, 99, 163, 0, 40, 42, 182, 0, 167, 42]
abbrev dktX1_leastLonging_1 : List UInt8 := dkwX1_leastLonging_1 ++ dktX1_leastLonging_2
def dkwX1_leastLonging_0 : List UInt8 := [42, 180, 0, 101, 27, 182, 0, 69, 153, 0, 20, 28, 184, 0, 34, 153, 0, 13, 29, 3, 16, 20]
abbrev dktX1_leastLonging_0 : List UInt8 := dkwX1_leastLonging_0 ++ dktX1_leastLonging_1
theorem dksX1_leastLonging_0 : cX1_leastLonging.data.toList.drop 0 = dktX1_leastLonging_0 := by decide +kernel
theorem dksX1_leastLonging_1 : cX1_leastLonging.data.toList.drop 22 = dktX1_leastLonging_1 := dk_seg dksX1_leastLonging_0 22 rfl rfl
theorem dksX1_leastLonging_2 : cX1_leastLonging.data.toList.drop 45 = dktX1_leastLonging_2 := dk_seg dksX1_leastLonging_1 23 rfl rfl
theorem dksX1_leastLonging_3 : cX1_leastLonging.data.toList.drop 68 = dktX1_leastLonging_3 := dk_seg dksX1_leastLonging_2 23 rfl rfl
theorem dX1_leastLonging_0 : decode cX1_leastLonging 0 = .ok (.aload_n 0, 1) := dk_42 (dk_at dksX1_leastLonging_0 0 rfl rfl)
theorem dX1_leastLonging_1 : decode cX1_leastLonging 1 = .ok (.getfield 101, 3) := dk_180 0 101 (dk_at dksX1_leastLonging_0 1 rfl rfl)
theorem dX1_leastLonging_4 : decode cX1_leastLonging 4 = .ok (.iload_n 1, 1) := dk_27 (dk_at dksX1_leastLonging_0 4 rfl rfl)
theorem dX1_leastLonging_5 : decode cX1_leastLonging 5 = .ok (.invokevirtual 69, 3) := dk_182 0 69 (dk_at dksX1_leastLonging_0 5 rfl rfl)
theorem dX1_leastLonging_8 : decode cX1_leastLonging 8 = .ok (.ifCond .eq 20, 3) := dk_153 0 20 (dk_at dksX1_leastLonging_0 8 rfl rfl)
theorem dX1_leastLonging_11 : decode cX1_leastLonging 11 = .ok (.iload_n 2, 1) := dk_28 (dk_at dksX1_leastLonging_0 11 rfl rfl)
theorem dX1_leastLonging_12 : decode cX1_leastLonging 12 = .ok (.invokestatic 34, 3) := dk_184 0 34 (dk_at dksX1_leastLonging_0 12 rfl rfl)
theorem dX1_leastLonging_15 : decode cX1_leastLonging 15 = .ok (.ifCond .eq 13, 3) := dk_153 0 13 (dk_at dksX1_leastLonging_0 15 rfl rfl)
theorem dX1_leastLonging_18 : decode cX1_leastLonging 18 = .ok (.iload_n 3, 1) := dk_29 (dk_at dksX1_leastLonging_0 18 rfl rfl)
theorem dX1_leastLonging_19 : decode cX1_leastLonging 19 = .ok (.iconst 0, 1) := dk_3 (dk_at dksX1_leastLonging_0 19 rfl rfl)
theorem dX1_leastLonging_20 : decode cX1_leastLonging 20 = .ok (.bipush 20, 2) := dk_16 20 (dk_at dksX1_leastLonging_0 20 rfl rfl)
theorem dX1_leastLonging_22 : decode cX1_leastLonging 22 = .ok (.invokestatic 30, 3) := dk_184 0 30 (dk_at dksX1_leastLonging_1 0 rfl rfl)
theorem dX1_leastLonging_25 : decode cX1_leastLonging 25 = .ok (.ifCond .ne 5, 3) := dk_154 0 5 (dk_at dksX1_leastLonging_1 3 rfl rfl)
theorem dX1_leastLonging_28 : decode cX1_leastLonging 28 = .ok (.iconst (-1), 1) := dk_2 (dk_at dksX1_leastLonging_1 6 rfl rfl)
theorem dX1_leastLonging_29 : decode cX1_leastLonging 29 = .ok (.ireturn, 1) := dk_172 (dk_at dksX1_leastLonging_1 7 rfl rfl)
theorem dX1_leastLonging_30 : decode cX1_leastLonging 30 = .ok (.iconst 0, 1) := dk_3 (dk_at dksX1_leastLonging_1 8 rfl rfl)
theorem dX1_leastLonging_31 : decode cX1_leastLonging 31 = .ok (.istore 4, 2) := dk_54 4 (dk_at dksX1_leastLonging_1 9 rfl rfl)
theorem dX1_leastLonging_33 : decode cX1_leastLonging 33 = .ok (.iload 4, 2) := dk_21 4 (dk_at dksX1_leastLonging_1 11 rfl rfl)
theorem dX1_leastLonging_35 : decode cX1_leastLonging 35 = .ok (.bipush 99, 2) := dk_16 99 (dk_at dksX1_leastLonging_1 13 rfl rfl)
theorem dX1_leastLonging_37 : decode cX1_leastLonging 37 = .ok (.if_icmp .gt 40, 3) := dk_163 0 40 (dk_at dksX1_leastLonging_1 15 rfl rfl)
theorem dX1_leastLonging_40 : decode cX1_leastLonging 40 = .ok (.aload_n 0, 1) := dk_42 (dk_at dksX1_leastLonging_1 18 rfl rfl)
theorem dX1_leastLonging_41 : decode cX1_leastLonging 41 = .ok (.invokevirtual 167, 3) := dk_182 0 167 (dk_at dksX1_leastLonging_1 19 rfl rfl)
theorem dX1_leastLonging_44 : decode cX1_leastLonging 44 = .ok (.aload_n 0, 1) := dk_42 (dk_at dksX1_leastLonging_1 22 rfl rfl)
theorem dX1_leastLonging_45 : decode cX1_leastLonging 45 = .ok (.getfield 38, 3) := dk_180 0 38 (dk_at dksX1_leastLonging_2 0 rfl rfl)
theorem dX1_leastLonging_48 : decode cX1_leastLonging 48 = .ok (.getfield 79, 3) := dk_180 0 79 (dk_at dksX1_leastLonging_2 3 rfl rfl)
theorem dX1_leastLonging_51 : decode cX1_leastLonging 51 = .ok (.iload_n 1, 1) := dk_27 (dk_at dksX1_leastLonging_2 6 rfl rfl)
theorem dX1_leastLonging_52 : decode cX1_leastLonging 52 = .ok (.iload 4, 2) := dk_21 4 (dk_at dksX1_leastLonging_2 7 rfl rfl)
theorem dX1_leastLonging_54 : decode cX1_leastLonging 54 = .ok (.iastore, 1) := dk_79 (dk_at dksX1_leastLonging_2 9 rfl rfl)
theorem dX1_leastLonging_55 : decode cX1_leastLonging 55 = .ok (.aload_n 0, 1) := dk_42 (dk_at dksX1_leastLonging_2 10 rfl rfl)
theorem dX1_leastLonging_56 : decode cX1_leastLonging 56 = .ok (.getfield 38, 3) := dk_180 0 38 (dk_at dksX1_leastLonging_2 11 rfl rfl)
theorem dX1_leastLonging_59 : decode cX1_leastLonging 59 = .ok (.iload_n 1, 1) := dk_27 (dk_at dksX1_leastLonging_2 14 rfl rfl)
theorem dX1_leastLonging_60 : decode cX1_leastLonging 60 = .ok (.iload_n 2, 1) := dk_28 (dk_at dksX1_leastLonging_2 15 rfl rfl)
theorem dX1_leastLonging_61 : decode cX1_leastLonging 61 = .ok (.invokevirtual 72, 3) := dk_182 0 72 (dk_at dksX1_leastLonging_2 16 rfl rfl)
theorem dX1_leastLonging_64 : decode cX1_leastLonging 64 = .ok (.iload_n 3, 1) := dk_29 (dk_at dksX1_leastLonging_2 19 rfl rfl)
theorem dX1_leastLonging_65 : decode cX1_leastLonging 65 = .ok (.if_icmp .gt 6, 3) := dk_163 0 6 (dk_at dksX1_leastLonging_2 20 rfl rfl)
theorem dX1_leastLonging_68 : decode cX1_leastLonging 68 = .ok (.iload 4, 2) := dk_21 4 (dk_at dksX1_leastLonging_3 0 rfl rfl)
theorem dX1_leastLonging_70 : decode cX1_leastLonging 70 = .ok (.ireturn, 1) := dk_172 (dk_at dksX1_leastLonging_3 2 rfl rfl)
theorem dX1_leastLonging_71 : decode cX1_leastLonging 71 = .ok (.iinc 4 1, 3) := dk_132 4 1 (dk_at dksX1_leastLonging_3 3 rfl rfl)
theorem dX1_leastLonging_74 : decode cX1_leastLonging 74 = .ok (.goto (-41), 3) := dk_167 255 215 (dk_at dksX1_leastLonging_3 6 rfl rfl)
theorem dX1_leastLonging_77 : decode cX1_leastLonging 77 = .ok (.bipush (-4), 2) := dk_16 252 (dk_at dksX1_leastLonging_3 9 rfl rfl)
theorem dX1_leastLonging_79 : decode cX1_leastLonging 79 = .ok (.ireturn, 1) := dk_172 (dk_at dksX1_leastLonging_3 11 rfl rfl)
abbrev cX1_soonest : ByteArray := prog_1_method_31_code
def yX1_soonest : MethodName := ⟨RX1, "soonest", "(III)I"⟩
def dkwX1_soonest_4 : List UInt8 := [167, 0, 5, 21, 5, 172]
abbrev dktX1_soonest_4 : List UInt8 := dkwX1_soonest_4 ++ []
def dkwX1_soonest_3 : List UInt8 := [167, 0, 11, 21, 6, 54, 4, 21, 7, 54, 5, 132, 6, 1, 167, 255, 215, 29, 154, 0, 8, 21, 4]
abbrev dktX1_soonest_3 : List UInt8 := dkwX1_soonest_3 ++ dktX1_soonest_4
def dkwX1_soonest_2 : List UInt8 := [163, 0, 40, 21, 6, 42, 27, 28, 21, 6, 182, 0, 174, 96, 54, 7, 21, 7, 21, 5, 161, 0, 6]
abbrev dktX1_soonest_2 : List UInt8 := dkwX1_soonest_2 ++ dktX1_soonest_3
def dkwX1_soonest_1 : List UInt8 := [154, 0, 5, 2, 172, 3, 54, 4, 42, 27, 28, 3, 182, 0, 174, 54, 5, 4, 54, 6, 21, 6, 16, 30]
abbrev dktX1_soonest_1 : List UInt8 := dkwX1_soonest_1 ++ dktX1_soonest_2
def dkwX1_soonest_0 : List UInt8 := [42, 180, 0, 101, 27, 182, 0, 69, 153, 0, 19, 28, 184, 0, 34, 153, 0, 12, 29, 3, 4, 184, 0, 30]
abbrev dktX1_soonest_0 : List UInt8 := dkwX1_soonest_0 ++ dktX1_soonest_1
theorem dksX1_soonest_0 : cX1_soonest.data.toList.drop 0 = dktX1_soonest_0 := by decide +kernel
theorem dksX1_soonest_1 : cX1_soonest.data.toList.drop 24 = dktX1_soonest_1 := dk_seg dksX1_soonest_0 24 rfl rfl
theorem dksX1_soonest_2 : cX1_soonest.data.toList.drop 48 = dktX1_soonest_2 := dk_seg dksX1_soonest_1 24 rfl rfl
theorem dksX1_soonest_3 : cX1_soonest.data.toList.drop 71 = dktX1_soonest_3 := dk_seg dksX1_soonest_2 23 rfl rfl
theorem dksX1_soonest_4 : cX1_soonest.data.toList.drop 94 = dktX1_soonest_4 := dk_seg dksX1_soonest_3 23 rfl rfl
theorem dX1_soonest_0 : decode cX1_soonest 0 = .ok (.aload_n 0, 1) := dk_42 (dk_at dksX1_soonest_0 0 rfl rfl)
theorem dX1_soonest_1 : decode cX1_soonest 1 = .ok (.getfield 101, 3) := dk_180 0 101 (dk_at dksX1_soonest_0 1 rfl rfl)
theorem dX1_soonest_4 : decode cX1_soonest 4 = .ok (.iload_n 1, 1) := dk_27 (dk_at dksX1_soonest_0 4 rfl rfl)
theorem dX1_soonest_5 : decode cX1_soonest 5 = .ok (.invokevirtual 69, 3) := dk_182 0 69 (dk_at dksX1_soonest_0 5 rfl rfl)
theorem dX1_soonest_8 : decode cX1_soonest 8 = .ok (.ifCond .eq 19, 3) := dk_153 0 19 (dk_at dksX1_soonest_0 8 rfl rfl)
theorem dX1_soonest_11 : decode cX1_soonest 11 = .ok (.iload_n 2, 1) := dk_28 (dk_at dksX1_soonest_0 11 rfl rfl)
theorem dX1_soonest_12 : decode cX1_soonest 12 = .ok (.invokestatic 34, 3) := dk_184 0 34 (dk_at dksX1_soonest_0 12 rfl rfl)
theorem dX1_soonest_15 : decode cX1_soonest 15 = .ok (.ifCond .eq 12, 3) := dk_153 0 12 (dk_at dksX1_soonest_0 15 rfl rfl)
theorem dX1_soonest_18 : decode cX1_soonest 18 = .ok (.iload_n 3, 1) := dk_29 (dk_at dksX1_soonest_0 18 rfl rfl)
theorem dX1_soonest_19 : decode cX1_soonest 19 = .ok (.iconst 0, 1) := dk_3 (dk_at dksX1_soonest_0 19 rfl rfl)
theorem dX1_soonest_20 : decode cX1_soonest 20 = .ok (.iconst 1, 1) := dk_4 (dk_at dksX1_soonest_0 20 rfl rfl)
theorem dX1_soonest_21 : decode cX1_soonest 21 = .ok (.invokestatic 30, 3) := dk_184 0 30 (dk_at dksX1_soonest_0 21 rfl rfl)
theorem dX1_soonest_24 : decode cX1_soonest 24 = .ok (.ifCond .ne 5, 3) := dk_154 0 5 (dk_at dksX1_soonest_1 0 rfl rfl)
theorem dX1_soonest_27 : decode cX1_soonest 27 = .ok (.iconst (-1), 1) := dk_2 (dk_at dksX1_soonest_1 3 rfl rfl)
theorem dX1_soonest_28 : decode cX1_soonest 28 = .ok (.ireturn, 1) := dk_172 (dk_at dksX1_soonest_1 4 rfl rfl)
theorem dX1_soonest_29 : decode cX1_soonest 29 = .ok (.iconst 0, 1) := dk_3 (dk_at dksX1_soonest_1 5 rfl rfl)
theorem dX1_soonest_30 : decode cX1_soonest 30 = .ok (.istore 4, 2) := dk_54 4 (dk_at dksX1_soonest_1 6 rfl rfl)
theorem dX1_soonest_32 : decode cX1_soonest 32 = .ok (.aload_n 0, 1) := dk_42 (dk_at dksX1_soonest_1 8 rfl rfl)
theorem dX1_soonest_33 : decode cX1_soonest 33 = .ok (.iload_n 1, 1) := dk_27 (dk_at dksX1_soonest_1 9 rfl rfl)
theorem dX1_soonest_34 : decode cX1_soonest 34 = .ok (.iload_n 2, 1) := dk_28 (dk_at dksX1_soonest_1 10 rfl rfl)
theorem dX1_soonest_35 : decode cX1_soonest 35 = .ok (.iconst 0, 1) := dk_3 (dk_at dksX1_soonest_1 11 rfl rfl)
theorem dX1_soonest_36 : decode cX1_soonest 36 = .ok (.invokevirtual 174, 3) := dk_182 0 174 (dk_at dksX1_soonest_1 12 rfl rfl)
theorem dX1_soonest_39 : decode cX1_soonest 39 = .ok (.istore 5, 2) := dk_54 5 (dk_at dksX1_soonest_1 15 rfl rfl)
theorem dX1_soonest_41 : decode cX1_soonest 41 = .ok (.iconst 1, 1) := dk_4 (dk_at dksX1_soonest_1 17 rfl rfl)
theorem dX1_soonest_42 : decode cX1_soonest 42 = .ok (.istore 6, 2) := dk_54 6 (dk_at dksX1_soonest_1 18 rfl rfl)
theorem dX1_soonest_44 : decode cX1_soonest 44 = .ok (.iload 6, 2) := dk_21 6 (dk_at dksX1_soonest_1 20 rfl rfl)
theorem dX1_soonest_46 : decode cX1_soonest 46 = .ok (.bipush 30, 2) := dk_16 30 (dk_at dksX1_soonest_1 22 rfl rfl)
theorem dX1_soonest_48 : decode cX1_soonest 48 = .ok (.if_icmp .gt 40, 3) := dk_163 0 40 (dk_at dksX1_soonest_2 0 rfl rfl)
theorem dX1_soonest_51 : decode cX1_soonest 51 = .ok (.iload 6, 2) := dk_21 6 (dk_at dksX1_soonest_2 3 rfl rfl)
theorem dX1_soonest_53 : decode cX1_soonest 53 = .ok (.aload_n 0, 1) := dk_42 (dk_at dksX1_soonest_2 5 rfl rfl)
theorem dX1_soonest_54 : decode cX1_soonest 54 = .ok (.iload_n 1, 1) := dk_27 (dk_at dksX1_soonest_2 6 rfl rfl)
theorem dX1_soonest_55 : decode cX1_soonest 55 = .ok (.iload_n 2, 1) := dk_28 (dk_at dksX1_soonest_2 7 rfl rfl)
theorem dX1_soonest_56 : decode cX1_soonest 56 = .ok (.iload 6, 2) := dk_21 6 (dk_at dksX1_soonest_2 8 rfl rfl)
theorem dX1_soonest_58 : decode cX1_soonest 58 = .ok (.invokevirtual 174, 3) := dk_182 0 174 (dk_at dksX1_soonest_2 10 rfl rfl)
theorem dX1_soonest_61 : decode cX1_soonest 61 = .ok (.iadd, 1) := dk_96 (dk_at dksX1_soonest_2 13 rfl rfl)
theorem dX1_soonest_62 : decode cX1_soonest 62 = .ok (.istore 7, 2) := dk_54 7 (dk_at dksX1_soonest_2 14 rfl rfl)
theorem dX1_soonest_64 : decode cX1_soonest 64 = .ok (.iload 7, 2) := dk_21 7 (dk_at dksX1_soonest_2 16 rfl rfl)
theorem dX1_soonest_66 : decode cX1_soonest 66 = .ok (.iload 5, 2) := dk_21 5 (dk_at dksX1_soonest_2 18 rfl rfl)
theorem dX1_soonest_68 : decode cX1_soonest 68 = .ok (.if_icmp .lt 6, 3) := dk_161 0 6 (dk_at dksX1_soonest_2 20 rfl rfl)
theorem dX1_soonest_71 : decode cX1_soonest 71 = .ok (.goto 11, 3) := dk_167 0 11 (dk_at dksX1_soonest_3 0 rfl rfl)
theorem dX1_soonest_74 : decode cX1_soonest 74 = .ok (.iload 6, 2) := dk_21 6 (dk_at dksX1_soonest_3 3 rfl rfl)
theorem dX1_soonest_76 : decode cX1_soonest 76 = .ok (.istore 4, 2) := dk_54 4 (dk_at dksX1_soonest_3 5 rfl rfl)
theorem dX1_soonest_78 : decode cX1_soonest 78 = .ok (.iload 7, 2) := dk_21 7 (dk_at dksX1_soonest_3 7 rfl rfl)
theorem dX1_soonest_80 : decode cX1_soonest 80 = .ok (.istore 5, 2) := dk_54 5 (dk_at dksX1_soonest_3 9 rfl rfl)
theorem dX1_soonest_82 : decode cX1_soonest 82 = .ok (.iinc 6 1, 3) := dk_132 6 1 (dk_at dksX1_soonest_3 11 rfl rfl)
theorem dX1_soonest_85 : decode cX1_soonest 85 = .ok (.goto (-41), 3) := dk_167 255 215 (dk_at dksX1_soonest_3 14 rfl rfl)
theorem dX1_soonest_88 : decode cX1_soonest 88 = .ok (.iload_n 3, 1) := dk_29 (dk_at dksX1_soonest_3 17 rfl rfl)
theorem dX1_soonest_89 : decode cX1_soonest 89 = .ok (.ifCond .ne 8, 3) := dk_154 0 8 (dk_at dksX1_soonest_3 18 rfl rfl)
theorem dX1_soonest_92 : decode cX1_soonest 92 = .ok (.iload 4, 2) := dk_21 4 (dk_at dksX1_soonest_3 21 rfl rfl)
theorem dX1_soonest_94 : decode cX1_soonest 94 = .ok (.goto 5, 3) := dk_167 0 5 (dk_at dksX1_soonest_4 0 rfl rfl)
theorem dX1_soonest_97 : decode cX1_soonest 97 = .ok (.iload 5, 2) := dk_21 5 (dk_at dksX1_soonest_4 3 rfl rfl)
theorem dX1_soonest_99 : decode cX1_soonest 99 = .ok (.ireturn, 1) := dk_172 (dk_at dksX1_soonest_4 5 rfl rfl)
abbrev cX1_race : ByteArray := prog_1_method_32_code
def yX1_race : MethodName := ⟨RX1, "race", "(III)I"⟩
def dkwX1_race_3 : List UInt8 := [28, 167, 0, 5, 16, 252, 172]
abbrev dktX1_race_3 : List UInt8 := dkwX1_race_3 ++ []
def dkwX1_race_2 : List UInt8 := [3, 182, 0, 174, 54, 5, 21, 4, 21, 5, 162, 0, 7, 27, 167, 0, 16, 21, 5, 21, 4, 162, 0, 7]
abbrev dktX1_race_2 : List UInt8 := dkwX1_race_2 ++ dktX1_race_3
def dkwX1_race_1 : List UInt8 := [159, 0, 10, 29, 184, 0, 34, 154, 0, 5, 2, 172, 42, 27, 29, 3, 182, 0, 174, 54, 4, 42, 28, 29]
abbrev dktX1_race_1 : List UInt8 := dkwX1_race_1 ++ dktX1_race_2
def dkwX1_race_0 : List UInt8 := [42, 180, 0, 101, 27, 182, 0, 69, 153, 0, 26, 42, 180, 0, 101, 28, 182, 0, 69, 153, 0, 15, 27, 28]
abbrev dktX1_race_0 : List UInt8 := dkwX1_race_0 ++ dktX1_race_1
theorem dksX1_race_0 : cX1_race.data.toList.drop 0 = dktX1_race_0 := by decide +kernel
theorem dksX1_race_1 : cX1_race.data.toList.drop 24 = dktX1_race_1 := dk_seg dksX1_race_0 24 rfl rfl
theorem dksX1_race_2 : cX1_race.data.toList.drop 48 = dktX1_race_2 := dk_seg dksX1_race_1 24 rfl rfl
theorem dksX1_race_3 : cX1_race.data.toList.drop 72 = dktX1_race_3 := dk_seg dksX1_race_2 24 rfl rfl
theorem dX1_race_0 : decode cX1_race 0 = .ok (.aload_n 0, 1) := dk_42 (dk_at dksX1_race_0 0 rfl rfl)
theorem dX1_race_1 : decode cX1_race 1 = .ok (.getfield 101, 3) := dk_180 0 101 (dk_at dksX1_race_0 1 rfl rfl)
theorem dX1_race_4 : decode cX1_race 4 = .ok (.iload_n 1, 1) := dk_27 (dk_at dksX1_race_0 4 rfl rfl)
theorem dX1_race_5 : decode cX1_race 5 = .ok (.invokevirtual 69, 3) := dk_182 0 69 (dk_at dksX1_race_0 5 rfl rfl)
theorem dX1_race_8 : decode cX1_race 8 = .ok (.ifCond .eq 26, 3) := dk_153 0 26 (dk_at dksX1_race_0 8 rfl rfl)
theorem dX1_race_11 : decode cX1_race 11 = .ok (.aload_n 0, 1) := dk_42 (dk_at dksX1_race_0 11 rfl rfl)
theorem dX1_race_12 : decode cX1_race 12 = .ok (.getfield 101, 3) := dk_180 0 101 (dk_at dksX1_race_0 12 rfl rfl)
theorem dX1_race_15 : decode cX1_race 15 = .ok (.iload_n 2, 1) := dk_28 (dk_at dksX1_race_0 15 rfl rfl)
theorem dX1_race_16 : decode cX1_race 16 = .ok (.invokevirtual 69, 3) := dk_182 0 69 (dk_at dksX1_race_0 16 rfl rfl)
theorem dX1_race_19 : decode cX1_race 19 = .ok (.ifCond .eq 15, 3) := dk_153 0 15 (dk_at dksX1_race_0 19 rfl rfl)
theorem dX1_race_22 : decode cX1_race 22 = .ok (.iload_n 1, 1) := dk_27 (dk_at dksX1_race_0 22 rfl rfl)
theorem dX1_race_23 : decode cX1_race 23 = .ok (.iload_n 2, 1) := dk_28 (dk_at dksX1_race_0 23 rfl rfl)
theorem dX1_race_24 : decode cX1_race 24 = .ok (.if_icmp .eq 10, 3) := dk_159 0 10 (dk_at dksX1_race_1 0 rfl rfl)
theorem dX1_race_27 : decode cX1_race 27 = .ok (.iload_n 3, 1) := dk_29 (dk_at dksX1_race_1 3 rfl rfl)
theorem dX1_race_28 : decode cX1_race 28 = .ok (.invokestatic 34, 3) := dk_184 0 34 (dk_at dksX1_race_1 4 rfl rfl)
theorem dX1_race_31 : decode cX1_race 31 = .ok (.ifCond .ne 5, 3) := dk_154 0 5 (dk_at dksX1_race_1 7 rfl rfl)
theorem dX1_race_34 : decode cX1_race 34 = .ok (.iconst (-1), 1) := dk_2 (dk_at dksX1_race_1 10 rfl rfl)
theorem dX1_race_35 : decode cX1_race 35 = .ok (.ireturn, 1) := dk_172 (dk_at dksX1_race_1 11 rfl rfl)
theorem dX1_race_36 : decode cX1_race 36 = .ok (.aload_n 0, 1) := dk_42 (dk_at dksX1_race_1 12 rfl rfl)
theorem dX1_race_37 : decode cX1_race 37 = .ok (.iload_n 1, 1) := dk_27 (dk_at dksX1_race_1 13 rfl rfl)
theorem dX1_race_38 : decode cX1_race 38 = .ok (.iload_n 3, 1) := dk_29 (dk_at dksX1_race_1 14 rfl rfl)
theorem dX1_race_39 : decode cX1_race 39 = .ok (.iconst 0, 1) := dk_3 (dk_at dksX1_race_1 15 rfl rfl)
theorem dX1_race_40 : decode cX1_race 40 = .ok (.invokevirtual 174, 3) := dk_182 0 174 (dk_at dksX1_race_1 16 rfl rfl)
theorem dX1_race_43 : decode cX1_race 43 = .ok (.istore 4, 2) := dk_54 4 (dk_at dksX1_race_1 19 rfl rfl)
theorem dX1_race_45 : decode cX1_race 45 = .ok (.aload_n 0, 1) := dk_42 (dk_at dksX1_race_1 21 rfl rfl)
theorem dX1_race_46 : decode cX1_race 46 = .ok (.iload_n 2, 1) := dk_28 (dk_at dksX1_race_1 22 rfl rfl)
theorem dX1_race_47 : decode cX1_race 47 = .ok (.iload_n 3, 1) := dk_29 (dk_at dksX1_race_1 23 rfl rfl)
theorem dX1_race_48 : decode cX1_race 48 = .ok (.iconst 0, 1) := dk_3 (dk_at dksX1_race_2 0 rfl rfl)
theorem dX1_race_49 : decode cX1_race 49 = .ok (.invokevirtual 174, 3) := dk_182 0 174 (dk_at dksX1_race_2 1 rfl rfl)
theorem dX1_race_52 : decode cX1_race 52 = .ok (.istore 5, 2) := dk_54 5 (dk_at dksX1_race_2 4 rfl rfl)
theorem dX1_race_54 : decode cX1_race 54 = .ok (.iload 4, 2) := dk_21 4 (dk_at dksX1_race_2 6 rfl rfl)
theorem dX1_race_56 : decode cX1_race 56 = .ok (.iload 5, 2) := dk_21 5 (dk_at dksX1_race_2 8 rfl rfl)
theorem dX1_race_58 : decode cX1_race 58 = .ok (.if_icmp .ge 7, 3) := dk_162 0 7 (dk_at dksX1_race_2 10 rfl rfl)
theorem dX1_race_61 : decode cX1_race 61 = .ok (.iload_n 1, 1) := dk_27 (dk_at dksX1_race_2 13 rfl rfl)
theorem dX1_race_62 : decode cX1_race 62 = .ok (.goto 16, 3) := dk_167 0 16 (dk_at dksX1_race_2 14 rfl rfl)
theorem dX1_race_65 : decode cX1_race 65 = .ok (.iload 5, 2) := dk_21 5 (dk_at dksX1_race_2 17 rfl rfl)
theorem dX1_race_67 : decode cX1_race 67 = .ok (.iload 4, 2) := dk_21 4 (dk_at dksX1_race_2 19 rfl rfl)
theorem dX1_race_69 : decode cX1_race 69 = .ok (.if_icmp .ge 7, 3) := dk_162 0 7 (dk_at dksX1_race_2 21 rfl rfl)
theorem dX1_race_72 : decode cX1_race 72 = .ok (.iload_n 2, 1) := dk_28 (dk_at dksX1_race_3 0 rfl rfl)
theorem dX1_race_73 : decode cX1_race 73 = .ok (.goto 5, 3) := dk_167 0 5 (dk_at dksX1_race_3 1 rfl rfl)
theorem dX1_race_76 : decode cX1_race 76 = .ok (.bipush (-4), 2) := dk_16 252 (dk_at dksX1_race_3 4 rfl rfl)
theorem dX1_race_78 : decode cX1_race 78 = .ok (.ireturn, 1) := dk_172 (dk_at dksX1_race_3 6 rfl rfl)
abbrev cX1_walkAhead : ByteArray := prog_1_method_33_code
def yX1_walkAhead : MethodName := ⟨RX1, "walkAhead", "(IIII)I"⟩
def dkwX1_walkAhead_5 : List UInt8 := [167, 255, 189, 21, 4, 154, 0, 8, 21, 5, 167, 0, 5, 21, 6, 172]
abbrev dktX1_walkAhead_5 : List UInt8 := dkwX1_walkAhead_5 ++ []
def dkwX1_walkAhead_4 : List UInt8 := [155, 0, 13, 21, 8, 21, 6, 161, 0, 6, 167, 0, 11, 21, 7, 54, 5, 21, 8, 54, 6, 132, 7, 1]
abbrev dktX1_walkAhead_4 : List UInt8 := dkwX1_walkAhead_4 ++ dktX1_walkAhead_5
def dkwX1_walkAhead_3 : List UInt8 := [21, 7, 79, 42, 180, 0, 38, 29, 182, 0, 85, 42, 180, 0, 38, 27, 28, 182, 0, 72, 54, 8, 21, 5]
abbrev dktX1_walkAhead_3 : List UInt8 := dkwX1_walkAhead_3 ++ dktX1_walkAhead_4
def dkwX1_walkAhead_2 : List UInt8 := [54, 6, 3, 54, 7, 21, 7, 16, 21, 162, 0, 66, 42, 182, 0, 167, 42, 180, 0, 38, 180, 0, 155, 27]
abbrev dktX1_walkAhead_2 : List UInt8 := dkwX1_walkAhead_2 ++ dktX1_walkAhead_3
def dkwX1_walkAhead_1 : List UInt8 := [184, 0, 30, 153, 0, 13, 21, 4, 3, 4, 184, 0, 30, 154, 0, 5, 2, 172, 16, 252, 54, 5, 16, 252]
abbrev dktX1_walkAhead_1 : List UInt8 := dkwX1_walkAhead_1 ++ dktX1_walkAhead_2
def dkwX1_walkAhead_0 : List UInt8 := [42, 180, 0, 101, 27, 182, 0, 69, 153, 0, 30, 28, 184, 0, 34, 153, 0, 23, 29, 3, 16, 30]
abbrev dktX1_walkAhead_0 : List UInt8 := dkwX1_walkAhead_0 ++ dktX1_walkAhead_1
theorem dksX1_walkAhead_0 : cX1_walkAhead.data.toList.drop 0 = dktX1_walkAhead_0 := by decide +kernel
theorem dksX1_walkAhead_1 : cX1_walkAhead.data.toList.drop 22 = dktX1_walkAhead_1 := dk_seg dksX1_walkAhead_0 22 rfl rfl
theorem dksX1_walkAhead_2 : cX1_walkAhead.data.toList.drop 46 = dktX1_walkAhead_2 := dk_seg dksX1_walkAhead_1 24 rfl rfl
theorem dksX1_walkAhead_3 : cX1_walkAhead.data.toList.drop 70 = dktX1_walkAhead_3 := dk_seg dksX1_walkAhead_2 24 rfl rfl
theorem dksX1_walkAhead_4 : cX1_walkAhead.data.toList.drop 94 = dktX1_walkAhead_4 := dk_seg dksX1_walkAhead_3 24 rfl rfl
theorem dksX1_walkAhead_5 : cX1_walkAhead.data.toList.drop 118 = dktX1_walkAhead_5 := dk_seg dksX1_walkAhead_4 24 rfl rfl
theorem dX1_walkAhead_0 : decode cX1_walkAhead 0 = .ok (.aload_n 0, 1) := dk_42 (dk_at dksX1_walkAhead_0 0 rfl rfl)
theorem dX1_walkAhead_1 : decode cX1_walkAhead 1 = .ok (.getfield 101, 3) := dk_180 0 101 (dk_at dksX1_walkAhead_0 1 rfl rfl)
theorem dX1_walkAhead_4 : decode cX1_walkAhead 4 = .ok (.iload_n 1, 1) := dk_27 (dk_at dksX1_walkAhead_0 4 rfl rfl)
theorem dX1_walkAhead_5 : decode cX1_walkAhead 5 = .ok (.invokevirtual 69, 3) := dk_182 0 69 (dk_at dksX1_walkAhead_0 5 rfl rfl)
theorem dX1_walkAhead_8 : decode cX1_walkAhead 8 = .ok (.ifCond .eq 30, 3) := dk_153 0 30 (dk_at dksX1_walkAhead_0 8 rfl rfl)
theorem dX1_walkAhead_11 : decode cX1_walkAhead 11 = .ok (.iload_n 2, 1) := dk_28 (dk_at dksX1_walkAhead_0 11 rfl rfl)
theorem dX1_walkAhead_12 : decode cX1_walkAhead 12 = .ok (.invokestatic 34, 3) := dk_184 0 34 (dk_at dksX1_walkAhead_0 12 rfl rfl)
theorem dX1_walkAhead_15 : decode cX1_walkAhead 15 = .ok (.ifCond .eq 23, 3) := dk_153 0 23 (dk_at dksX1_walkAhead_0 15 rfl rfl)
theorem dX1_walkAhead_18 : decode cX1_walkAhead 18 = .ok (.iload_n 3, 1) := dk_29 (dk_at dksX1_walkAhead_0 18 rfl rfl)
theorem dX1_walkAhead_19 : decode cX1_walkAhead 19 = .ok (.iconst 0, 1) := dk_3 (dk_at dksX1_walkAhead_0 19 rfl rfl)
theorem dX1_walkAhead_20 : decode cX1_walkAhead 20 = .ok (.bipush 30, 2) := dk_16 30 (dk_at dksX1_walkAhead_0 20 rfl rfl)
theorem dX1_walkAhead_22 : decode cX1_walkAhead 22 = .ok (.invokestatic 30, 3) := dk_184 0 30 (dk_at dksX1_walkAhead_1 0 rfl rfl)
theorem dX1_walkAhead_25 : decode cX1_walkAhead 25 = .ok (.ifCond .eq 13, 3) := dk_153 0 13 (dk_at dksX1_walkAhead_1 3 rfl rfl)
theorem dX1_walkAhead_28 : decode cX1_walkAhead 28 = .ok (.iload 4, 2) := dk_21 4 (dk_at dksX1_walkAhead_1 6 rfl rfl)
theorem dX1_walkAhead_30 : decode cX1_walkAhead 30 = .ok (.iconst 0, 1) := dk_3 (dk_at dksX1_walkAhead_1 8 rfl rfl)
theorem dX1_walkAhead_31 : decode cX1_walkAhead 31 = .ok (.iconst 1, 1) := dk_4 (dk_at dksX1_walkAhead_1 9 rfl rfl)
theorem dX1_walkAhead_32 : decode cX1_walkAhead 32 = .ok (.invokestatic 30, 3) := dk_184 0 30 (dk_at dksX1_walkAhead_1 10 rfl rfl)
theorem dX1_walkAhead_35 : decode cX1_walkAhead 35 = .ok (.ifCond .ne 5, 3) := dk_154 0 5 (dk_at dksX1_walkAhead_1 13 rfl rfl)
theorem dX1_walkAhead_38 : decode cX1_walkAhead 38 = .ok (.iconst (-1), 1) := dk_2 (dk_at dksX1_walkAhead_1 16 rfl rfl)
theorem dX1_walkAhead_39 : decode cX1_walkAhead 39 = .ok (.ireturn, 1) := dk_172 (dk_at dksX1_walkAhead_1 17 rfl rfl)
theorem dX1_walkAhead_40 : decode cX1_walkAhead 40 = .ok (.bipush (-4), 2) := dk_16 252 (dk_at dksX1_walkAhead_1 18 rfl rfl)
theorem dX1_walkAhead_42 : decode cX1_walkAhead 42 = .ok (.istore 5, 2) := dk_54 5 (dk_at dksX1_walkAhead_1 20 rfl rfl)
theorem dX1_walkAhead_44 : decode cX1_walkAhead 44 = .ok (.bipush (-4), 2) := dk_16 252 (dk_at dksX1_walkAhead_1 22 rfl rfl)
theorem dX1_walkAhead_46 : decode cX1_walkAhead 46 = .ok (.istore 6, 2) := dk_54 6 (dk_at dksX1_walkAhead_2 0 rfl rfl)
theorem dX1_walkAhead_48 : decode cX1_walkAhead 48 = .ok (.iconst 0, 1) := dk_3 (dk_at dksX1_walkAhead_2 2 rfl rfl)
theorem dX1_walkAhead_49 : decode cX1_walkAhead 49 = .ok (.istore 7, 2) := dk_54 7 (dk_at dksX1_walkAhead_2 3 rfl rfl)
theorem dX1_walkAhead_51 : decode cX1_walkAhead 51 = .ok (.iload 7, 2) := dk_21 7 (dk_at dksX1_walkAhead_2 5 rfl rfl)
theorem dX1_walkAhead_53 : decode cX1_walkAhead 53 = .ok (.bipush 21, 2) := dk_16 21 (dk_at dksX1_walkAhead_2 7 rfl rfl)
theorem dX1_walkAhead_55 : decode cX1_walkAhead 55 = .ok (.if_icmp .ge 66, 3) := dk_162 0 66 (dk_at dksX1_walkAhead_2 9 rfl rfl)
theorem dX1_walkAhead_58 : decode cX1_walkAhead 58 = .ok (.aload_n 0, 1) := dk_42 (dk_at dksX1_walkAhead_2 12 rfl rfl)
theorem dX1_walkAhead_59 : decode cX1_walkAhead 59 = .ok (.invokevirtual 167, 3) := dk_182 0 167 (dk_at dksX1_walkAhead_2 13 rfl rfl)
theorem dX1_walkAhead_62 : decode cX1_walkAhead 62 = .ok (.aload_n 0, 1) := dk_42 (dk_at dksX1_walkAhead_2 16 rfl rfl)
theorem dX1_walkAhead_63 : decode cX1_walkAhead 63 = .ok (.getfield 38, 3) := dk_180 0 38 (dk_at dksX1_walkAhead_2 17 rfl rfl)
theorem dX1_walkAhead_66 : decode cX1_walkAhead 66 = .ok (.getfield 155, 3) := dk_180 0 155 (dk_at dksX1_walkAhead_2 20 rfl rfl)
theorem dX1_walkAhead_69 : decode cX1_walkAhead 69 = .ok (.iload_n 1, 1) := dk_27 (dk_at dksX1_walkAhead_2 23 rfl rfl)
theorem dX1_walkAhead_70 : decode cX1_walkAhead 70 = .ok (.iload 7, 2) := dk_21 7 (dk_at dksX1_walkAhead_3 0 rfl rfl)
theorem dX1_walkAhead_72 : decode cX1_walkAhead 72 = .ok (.iastore, 1) := dk_79 (dk_at dksX1_walkAhead_3 2 rfl rfl)
theorem dX1_walkAhead_73 : decode cX1_walkAhead 73 = .ok (.aload_n 0, 1) := dk_42 (dk_at dksX1_walkAhead_3 3 rfl rfl)
theorem dX1_walkAhead_74 : decode cX1_walkAhead 74 = .ok (.getfield 38, 3) := dk_180 0 38 (dk_at dksX1_walkAhead_3 4 rfl rfl)
theorem dX1_walkAhead_77 : decode cX1_walkAhead 77 = .ok (.iload_n 3, 1) := dk_29 (dk_at dksX1_walkAhead_3 7 rfl rfl)
theorem dX1_walkAhead_78 : decode cX1_walkAhead 78 = .ok (.invokevirtual 85, 3) := dk_182 0 85 (dk_at dksX1_walkAhead_3 8 rfl rfl)
theorem dX1_walkAhead_81 : decode cX1_walkAhead 81 = .ok (.aload_n 0, 1) := dk_42 (dk_at dksX1_walkAhead_3 11 rfl rfl)
theorem dX1_walkAhead_82 : decode cX1_walkAhead 82 = .ok (.getfield 38, 3) := dk_180 0 38 (dk_at dksX1_walkAhead_3 12 rfl rfl)
theorem dX1_walkAhead_85 : decode cX1_walkAhead 85 = .ok (.iload_n 1, 1) := dk_27 (dk_at dksX1_walkAhead_3 15 rfl rfl)
theorem dX1_walkAhead_86 : decode cX1_walkAhead 86 = .ok (.iload_n 2, 1) := dk_28 (dk_at dksX1_walkAhead_3 16 rfl rfl)
theorem dX1_walkAhead_87 : decode cX1_walkAhead 87 = .ok (.invokevirtual 72, 3) := dk_182 0 72 (dk_at dksX1_walkAhead_3 17 rfl rfl)
theorem dX1_walkAhead_90 : decode cX1_walkAhead 90 = .ok (.istore 8, 2) := dk_54 8 (dk_at dksX1_walkAhead_3 20 rfl rfl)
theorem dX1_walkAhead_92 : decode cX1_walkAhead 92 = .ok (.iload 5, 2) := dk_21 5 (dk_at dksX1_walkAhead_3 22 rfl rfl)
theorem dX1_walkAhead_94 : decode cX1_walkAhead 94 = .ok (.ifCond .lt 13, 3) := dk_155 0 13 (dk_at dksX1_walkAhead_4 0 rfl rfl)
theorem dX1_walkAhead_97 : decode cX1_walkAhead 97 = .ok (.iload 8, 2) := dk_21 8 (dk_at dksX1_walkAhead_4 3 rfl rfl)
theorem dX1_walkAhead_99 : decode cX1_walkAhead 99 = .ok (.iload 6, 2) := dk_21 6 (dk_at dksX1_walkAhead_4 5 rfl rfl)
theorem dX1_walkAhead_101 : decode cX1_walkAhead 101 = .ok (.if_icmp .lt 6, 3) := dk_161 0 6 (dk_at dksX1_walkAhead_4 7 rfl rfl)
theorem dX1_walkAhead_104 : decode cX1_walkAhead 104 = .ok (.goto 11, 3) := dk_167 0 11 (dk_at dksX1_walkAhead_4 10 rfl rfl)
theorem dX1_walkAhead_107 : decode cX1_walkAhead 107 = .ok (.iload 7, 2) := dk_21 7 (dk_at dksX1_walkAhead_4 13 rfl rfl)
theorem dX1_walkAhead_109 : decode cX1_walkAhead 109 = .ok (.istore 5, 2) := dk_54 5 (dk_at dksX1_walkAhead_4 15 rfl rfl)
theorem dX1_walkAhead_111 : decode cX1_walkAhead 111 = .ok (.iload 8, 2) := dk_21 8 (dk_at dksX1_walkAhead_4 17 rfl rfl)
theorem dX1_walkAhead_113 : decode cX1_walkAhead 113 = .ok (.istore 6, 2) := dk_54 6 (dk_at dksX1_walkAhead_4 19 rfl rfl)
theorem dX1_walkAhead_115 : decode cX1_walkAhead 115 = .ok (.iinc 7 1, 3) := dk_132 7 1 (dk_at dksX1_walkAhead_4 21 rfl rfl)
theorem dX1_walkAhead_118 : decode cX1_walkAhead 118 = .ok (.goto (-67), 3) := dk_167 255 189 (dk_at dksX1_walkAhead_5 0 rfl rfl)
theorem dX1_walkAhead_121 : decode cX1_walkAhead 121 = .ok (.iload 4, 2) := dk_21 4 (dk_at dksX1_walkAhead_5 3 rfl rfl)
theorem dX1_walkAhead_123 : decode cX1_walkAhead 123 = .ok (.ifCond .ne 8, 3) := dk_154 0 8 (dk_at dksX1_walkAhead_5 5 rfl rfl)
theorem dX1_walkAhead_126 : decode cX1_walkAhead 126 = .ok (.iload 5, 2) := dk_21 5 (dk_at dksX1_walkAhead_5 8 rfl rfl)
theorem dX1_walkAhead_128 : decode cX1_walkAhead 128 = .ok (.goto 5, 3) := dk_167 0 5 (dk_at dksX1_walkAhead_5 10 rfl rfl)
theorem dX1_walkAhead_131 : decode cX1_walkAhead 131 = .ok (.iload 6, 2) := dk_21 6 (dk_at dksX1_walkAhead_5 13 rfl rfl)
theorem dX1_walkAhead_133 : decode cX1_walkAhead 133 = .ok (.ireturn, 1) := dk_172 (dk_at dksX1_walkAhead_5 15 rfl rfl)
abbrev cX1_hang : ByteArray := prog_1_method_34_code
def yX1_hang : MethodName := ⟨RX1, "hang", "(II)I"⟩
def dkwX1_hang_4 : List UInt8 := [154, 0, 7, 29, 167, 0, 5, 21, 4, 172]
abbrev dktX1_hang_4 : List UInt8 := dkwX1_hang_4 ++ []
def dkwX1_hang_3 : List UInt8 := [167, 0, 15, 21, 5, 62, 42, 180, 0, 38, 182, 0, 171, 54, 4, 132, 5, 1, 167, 255, 198, 28]
abbrev dktX1_hang_3 : List UInt8 := dkwX1_hang_3 ++ dktX1_hang_4
def dkwX1_hang_2 : List UInt8 := [181, 0, 82, 42, 180, 0, 38, 27, 182, 0, 85, 42, 180, 0, 38, 182, 0, 171, 21, 4, 163, 0, 6]
abbrev dktX1_hang_2 : List UInt8 := dkwX1_hang_2 ++ dktX1_hang_3
def dkwX1_hang_1 : List UInt8 := [54, 4, 3, 54, 5, 21, 5, 16, 21, 162, 0, 57, 42, 182, 0, 167, 42, 180, 0, 38, 21, 5]
abbrev dktX1_hang_1 : List UInt8 := dkwX1_hang_1 ++ dktX1_hang_2
def dkwX1_hang_0 : List UInt8 := [27, 184, 0, 178, 153, 0, 12, 28, 3, 4, 184, 0, 30, 154, 0, 5, 2, 172, 16, 252, 62, 16, 252]
abbrev dktX1_hang_0 : List UInt8 := dkwX1_hang_0 ++ dktX1_hang_1
theorem dksX1_hang_0 : cX1_hang.data.toList.drop 0 = dktX1_hang_0 := by decide +kernel
theorem dksX1_hang_1 : cX1_hang.data.toList.drop 23 = dktX1_hang_1 := dk_seg dksX1_hang_0 23 rfl rfl
theorem dksX1_hang_2 : cX1_hang.data.toList.drop 45 = dktX1_hang_2 := dk_seg dksX1_hang_1 22 rfl rfl
theorem dksX1_hang_3 : cX1_hang.data.toList.drop 68 = dktX1_hang_3 := dk_seg dksX1_hang_2 23 rfl rfl
theorem dksX1_hang_4 : cX1_hang.data.toList.drop 90 = dktX1_hang_4 := dk_seg dksX1_hang_3 22 rfl rfl
theorem dX1_hang_0 : decode cX1_hang 0 = .ok (.iload_n 1, 1) := dk_27 (dk_at dksX1_hang_0 0 rfl rfl)
theorem dX1_hang_1 : decode cX1_hang 1 = .ok (.invokestatic 178, 3) := dk_184 0 178 (dk_at dksX1_hang_0 1 rfl rfl)
theorem dX1_hang_4 : decode cX1_hang 4 = .ok (.ifCond .eq 12, 3) := dk_153 0 12 (dk_at dksX1_hang_0 4 rfl rfl)
theorem dX1_hang_7 : decode cX1_hang 7 = .ok (.iload_n 2, 1) := dk_28 (dk_at dksX1_hang_0 7 rfl rfl)
theorem dX1_hang_8 : decode cX1_hang 8 = .ok (.iconst 0, 1) := dk_3 (dk_at dksX1_hang_0 8 rfl rfl)
theorem dX1_hang_9 : decode cX1_hang 9 = .ok (.iconst 1, 1) := dk_4 (dk_at dksX1_hang_0 9 rfl rfl)
theorem dX1_hang_10 : decode cX1_hang 10 = .ok (.invokestatic 30, 3) := dk_184 0 30 (dk_at dksX1_hang_0 10 rfl rfl)
theorem dX1_hang_13 : decode cX1_hang 13 = .ok (.ifCond .ne 5, 3) := dk_154 0 5 (dk_at dksX1_hang_0 13 rfl rfl)
theorem dX1_hang_16 : decode cX1_hang 16 = .ok (.iconst (-1), 1) := dk_2 (dk_at dksX1_hang_0 16 rfl rfl)
theorem dX1_hang_17 : decode cX1_hang 17 = .ok (.ireturn, 1) := dk_172 (dk_at dksX1_hang_0 17 rfl rfl)
theorem dX1_hang_18 : decode cX1_hang 18 = .ok (.bipush (-4), 2) := dk_16 252 (dk_at dksX1_hang_0 18 rfl rfl)
theorem dX1_hang_20 : decode cX1_hang 20 = .ok (.istore_n 3, 1) := dk_62 (dk_at dksX1_hang_0 20 rfl rfl)
theorem dX1_hang_21 : decode cX1_hang 21 = .ok (.bipush (-4), 2) := dk_16 252 (dk_at dksX1_hang_0 21 rfl rfl)
theorem dX1_hang_23 : decode cX1_hang 23 = .ok (.istore 4, 2) := dk_54 4 (dk_at dksX1_hang_1 0 rfl rfl)
theorem dX1_hang_25 : decode cX1_hang 25 = .ok (.iconst 0, 1) := dk_3 (dk_at dksX1_hang_1 2 rfl rfl)
theorem dX1_hang_26 : decode cX1_hang 26 = .ok (.istore 5, 2) := dk_54 5 (dk_at dksX1_hang_1 3 rfl rfl)
theorem dX1_hang_28 : decode cX1_hang 28 = .ok (.iload 5, 2) := dk_21 5 (dk_at dksX1_hang_1 5 rfl rfl)
theorem dX1_hang_30 : decode cX1_hang 30 = .ok (.bipush 21, 2) := dk_16 21 (dk_at dksX1_hang_1 7 rfl rfl)
theorem dX1_hang_32 : decode cX1_hang 32 = .ok (.if_icmp .ge 57, 3) := dk_162 0 57 (dk_at dksX1_hang_1 9 rfl rfl)
theorem dX1_hang_35 : decode cX1_hang 35 = .ok (.aload_n 0, 1) := dk_42 (dk_at dksX1_hang_1 12 rfl rfl)
theorem dX1_hang_36 : decode cX1_hang 36 = .ok (.invokevirtual 167, 3) := dk_182 0 167 (dk_at dksX1_hang_1 13 rfl rfl)
theorem dX1_hang_39 : decode cX1_hang 39 = .ok (.aload_n 0, 1) := dk_42 (dk_at dksX1_hang_1 16 rfl rfl)
theorem dX1_hang_40 : decode cX1_hang 40 = .ok (.getfield 38, 3) := dk_180 0 38 (dk_at dksX1_hang_1 17 rfl rfl)
theorem dX1_hang_43 : decode cX1_hang 43 = .ok (.iload 5, 2) := dk_21 5 (dk_at dksX1_hang_1 20 rfl rfl)
theorem dX1_hang_45 : decode cX1_hang 45 = .ok (.putfield 82, 3) := dk_181 0 82 (dk_at dksX1_hang_2 0 rfl rfl)
theorem dX1_hang_48 : decode cX1_hang 48 = .ok (.aload_n 0, 1) := dk_42 (dk_at dksX1_hang_2 3 rfl rfl)
theorem dX1_hang_49 : decode cX1_hang 49 = .ok (.getfield 38, 3) := dk_180 0 38 (dk_at dksX1_hang_2 4 rfl rfl)
theorem dX1_hang_52 : decode cX1_hang 52 = .ok (.iload_n 1, 1) := dk_27 (dk_at dksX1_hang_2 7 rfl rfl)
theorem dX1_hang_53 : decode cX1_hang 53 = .ok (.invokevirtual 85, 3) := dk_182 0 85 (dk_at dksX1_hang_2 8 rfl rfl)
theorem dX1_hang_56 : decode cX1_hang 56 = .ok (.aload_n 0, 1) := dk_42 (dk_at dksX1_hang_2 11 rfl rfl)
theorem dX1_hang_57 : decode cX1_hang 57 = .ok (.getfield 38, 3) := dk_180 0 38 (dk_at dksX1_hang_2 12 rfl rfl)
theorem dX1_hang_60 : decode cX1_hang 60 = .ok (.invokevirtual 171, 3) := dk_182 0 171 (dk_at dksX1_hang_2 15 rfl rfl)
theorem dX1_hang_63 : decode cX1_hang 63 = .ok (.iload 4, 2) := dk_21 4 (dk_at dksX1_hang_2 18 rfl rfl)
theorem dX1_hang_65 : decode cX1_hang 65 = .ok (.if_icmp .gt 6, 3) := dk_163 0 6 (dk_at dksX1_hang_2 20 rfl rfl)
theorem dX1_hang_68 : decode cX1_hang 68 = .ok (.goto 15, 3) := dk_167 0 15 (dk_at dksX1_hang_3 0 rfl rfl)
theorem dX1_hang_71 : decode cX1_hang 71 = .ok (.iload 5, 2) := dk_21 5 (dk_at dksX1_hang_3 3 rfl rfl)
theorem dX1_hang_73 : decode cX1_hang 73 = .ok (.istore_n 3, 1) := dk_62 (dk_at dksX1_hang_3 5 rfl rfl)
theorem dX1_hang_74 : decode cX1_hang 74 = .ok (.aload_n 0, 1) := dk_42 (dk_at dksX1_hang_3 6 rfl rfl)
theorem dX1_hang_75 : decode cX1_hang 75 = .ok (.getfield 38, 3) := dk_180 0 38 (dk_at dksX1_hang_3 7 rfl rfl)
theorem dX1_hang_78 : decode cX1_hang 78 = .ok (.invokevirtual 171, 3) := dk_182 0 171 (dk_at dksX1_hang_3 10 rfl rfl)
theorem dX1_hang_81 : decode cX1_hang 81 = .ok (.istore 4, 2) := dk_54 4 (dk_at dksX1_hang_3 13 rfl rfl)
theorem dX1_hang_83 : decode cX1_hang 83 = .ok (.iinc 5 1, 3) := dk_132 5 1 (dk_at dksX1_hang_3 15 rfl rfl)
theorem dX1_hang_86 : decode cX1_hang 86 = .ok (.goto (-58), 3) := dk_167 255 198 (dk_at dksX1_hang_3 18 rfl rfl)
theorem dX1_hang_89 : decode cX1_hang 89 = .ok (.iload_n 2, 1) := dk_28 (dk_at dksX1_hang_3 21 rfl rfl)
theorem dX1_hang_90 : decode cX1_hang 90 = .ok (.ifCond .ne 7, 3) := dk_154 0 7 (dk_at dksX1_hang_4 0 rfl rfl)
theorem dX1_hang_93 : decode cX1_hang 93 = .ok (.iload_n 3, 1) := dk_29 (dk_at dksX1_hang_4 3 rfl rfl)
theorem dX1_hang_94 : decode cX1_hang 94 = .ok (.goto 5, 3) := dk_167 0 5 (dk_at dksX1_hang_4 4 rfl rfl)
theorem dX1_hang_97 : decode cX1_hang 97 = .ok (.iload 4, 2) := dk_21 4 (dk_at dksX1_hang_4 7 rfl rfl)
theorem dX1_hang_99 : decode cX1_hang 99 = .ok (.ireturn, 1) := dk_172 (dk_at dksX1_hang_4 9 rfl rfl)
abbrev cX1_meet : ByteArray := prog_1_method_36_code
def yX1_meet : MethodName := ⟨RX1, "meet", "(I)I"⟩
def dkwX1_meet_2 : List UInt8 := [61, 21, 5, 62, 132, 4, 1, 167, 255, 223, 27, 154, 0, 7, 28, 167, 0, 4, 29, 172]
abbrev dktX1_meet_2 : List UInt8 := dkwX1_meet_2 ++ []
def dkwX1_meet_1 : List UInt8 := [16, 21, 162, 0, 32, 42, 21, 4, 182, 0, 211, 54, 5, 21, 5, 29, 161, 0, 6, 167, 0, 9, 21, 4]
abbrev dktX1_meet_1 : List UInt8 := dkwX1_meet_1 ++ dktX1_meet_2
def dkwX1_meet_0 : List UInt8 := [27, 3, 4, 184, 0, 30, 154, 0, 5, 2, 172, 3, 61, 42, 3, 182, 0, 211, 62, 4, 54, 4, 21, 4]
abbrev dktX1_meet_0 : List UInt8 := dkwX1_meet_0 ++ dktX1_meet_1
theorem dksX1_meet_0 : cX1_meet.data.toList.drop 0 = dktX1_meet_0 := by decide +kernel
theorem dksX1_meet_1 : cX1_meet.data.toList.drop 24 = dktX1_meet_1 := dk_seg dksX1_meet_0 24 rfl rfl
theorem dksX1_meet_2 : cX1_meet.data.toList.drop 48 = dktX1_meet_2 := dk_seg dksX1_meet_1 24 rfl rfl
theorem dX1_meet_0 : decode cX1_meet 0 = .ok (.iload_n 1, 1) := dk_27 (dk_at dksX1_meet_0 0 rfl rfl)
theorem dX1_meet_1 : decode cX1_meet 1 = .ok (.iconst 0, 1) := dk_3 (dk_at dksX1_meet_0 1 rfl rfl)
theorem dX1_meet_2 : decode cX1_meet 2 = .ok (.iconst 1, 1) := dk_4 (dk_at dksX1_meet_0 2 rfl rfl)
theorem dX1_meet_3 : decode cX1_meet 3 = .ok (.invokestatic 30, 3) := dk_184 0 30 (dk_at dksX1_meet_0 3 rfl rfl)
theorem dX1_meet_6 : decode cX1_meet 6 = .ok (.ifCond .ne 5, 3) := dk_154 0 5 (dk_at dksX1_meet_0 6 rfl rfl)
theorem dX1_meet_9 : decode cX1_meet 9 = .ok (.iconst (-1), 1) := dk_2 (dk_at dksX1_meet_0 9 rfl rfl)
theorem dX1_meet_10 : decode cX1_meet 10 = .ok (.ireturn, 1) := dk_172 (dk_at dksX1_meet_0 10 rfl rfl)
theorem dX1_meet_11 : decode cX1_meet 11 = .ok (.iconst 0, 1) := dk_3 (dk_at dksX1_meet_0 11 rfl rfl)
theorem dX1_meet_12 : decode cX1_meet 12 = .ok (.istore_n 2, 1) := dk_61 (dk_at dksX1_meet_0 12 rfl rfl)
theorem dX1_meet_13 : decode cX1_meet 13 = .ok (.aload_n 0, 1) := dk_42 (dk_at dksX1_meet_0 13 rfl rfl)
theorem dX1_meet_14 : decode cX1_meet 14 = .ok (.iconst 0, 1) := dk_3 (dk_at dksX1_meet_0 14 rfl rfl)
theorem dX1_meet_15 : decode cX1_meet 15 = .ok (.invokevirtual 211, 3) := dk_182 0 211 (dk_at dksX1_meet_0 15 rfl rfl)
theorem dX1_meet_18 : decode cX1_meet 18 = .ok (.istore_n 3, 1) := dk_62 (dk_at dksX1_meet_0 18 rfl rfl)
theorem dX1_meet_19 : decode cX1_meet 19 = .ok (.iconst 1, 1) := dk_4 (dk_at dksX1_meet_0 19 rfl rfl)
theorem dX1_meet_20 : decode cX1_meet 20 = .ok (.istore 4, 2) := dk_54 4 (dk_at dksX1_meet_0 20 rfl rfl)
theorem dX1_meet_22 : decode cX1_meet 22 = .ok (.iload 4, 2) := dk_21 4 (dk_at dksX1_meet_0 22 rfl rfl)
theorem dX1_meet_24 : decode cX1_meet 24 = .ok (.bipush 21, 2) := dk_16 21 (dk_at dksX1_meet_1 0 rfl rfl)
theorem dX1_meet_26 : decode cX1_meet 26 = .ok (.if_icmp .ge 32, 3) := dk_162 0 32 (dk_at dksX1_meet_1 2 rfl rfl)
theorem dX1_meet_29 : decode cX1_meet 29 = .ok (.aload_n 0, 1) := dk_42 (dk_at dksX1_meet_1 5 rfl rfl)
theorem dX1_meet_30 : decode cX1_meet 30 = .ok (.iload 4, 2) := dk_21 4 (dk_at dksX1_meet_1 6 rfl rfl)
theorem dX1_meet_32 : decode cX1_meet 32 = .ok (.invokevirtual 211, 3) := dk_182 0 211 (dk_at dksX1_meet_1 8 rfl rfl)
theorem dX1_meet_35 : decode cX1_meet 35 = .ok (.istore 5, 2) := dk_54 5 (dk_at dksX1_meet_1 11 rfl rfl)
theorem dX1_meet_37 : decode cX1_meet 37 = .ok (.iload 5, 2) := dk_21 5 (dk_at dksX1_meet_1 13 rfl rfl)
theorem dX1_meet_39 : decode cX1_meet 39 = .ok (.iload_n 3, 1) := dk_29 (dk_at dksX1_meet_1 15 rfl rfl)
theorem dX1_meet_40 : decode cX1_meet 40 = .ok (.if_icmp .lt 6, 3) := dk_161 0 6 (dk_at dksX1_meet_1 16 rfl rfl)
theorem dX1_meet_43 : decode cX1_meet 43 = .ok (.goto 9, 3) := dk_167 0 9 (dk_at dksX1_meet_1 19 rfl rfl)
theorem dX1_meet_46 : decode cX1_meet 46 = .ok (.iload 4, 2) := dk_21 4 (dk_at dksX1_meet_1 22 rfl rfl)
theorem dX1_meet_48 : decode cX1_meet 48 = .ok (.istore_n 2, 1) := dk_61 (dk_at dksX1_meet_2 0 rfl rfl)
theorem dX1_meet_49 : decode cX1_meet 49 = .ok (.iload 5, 2) := dk_21 5 (dk_at dksX1_meet_2 1 rfl rfl)
theorem dX1_meet_51 : decode cX1_meet 51 = .ok (.istore_n 3, 1) := dk_62 (dk_at dksX1_meet_2 3 rfl rfl)
theorem dX1_meet_52 : decode cX1_meet 52 = .ok (.iinc 4 1, 3) := dk_132 4 1 (dk_at dksX1_meet_2 4 rfl rfl)
theorem dX1_meet_55 : decode cX1_meet 55 = .ok (.goto (-33), 3) := dk_167 255 223 (dk_at dksX1_meet_2 7 rfl rfl)
theorem dX1_meet_58 : decode cX1_meet 58 = .ok (.iload_n 1, 1) := dk_27 (dk_at dksX1_meet_2 10 rfl rfl)
theorem dX1_meet_59 : decode cX1_meet 59 = .ok (.ifCond .ne 7, 3) := dk_154 0 7 (dk_at dksX1_meet_2 11 rfl rfl)
theorem dX1_meet_62 : decode cX1_meet 62 = .ok (.iload_n 2, 1) := dk_28 (dk_at dksX1_meet_2 14 rfl rfl)
theorem dX1_meet_63 : decode cX1_meet 63 = .ok (.goto 4, 3) := dk_167 0 4 (dk_at dksX1_meet_2 15 rfl rfl)
theorem dX1_meet_66 : decode cX1_meet 66 = .ok (.iload_n 3, 1) := dk_29 (dk_at dksX1_meet_2 18 rfl rfl)
theorem dX1_meet_67 : decode cX1_meet 67 = .ok (.ireturn, 1) := dk_172 (dk_at dksX1_meet_2 19 rfl rfl)
abbrev cX1_allTake : ByteArray := prog_1_method_35_code
def yX1_allTake : MethodName := ⟨RX1, "allTake", "(I)I"⟩
def dkwX1_allTake_1 : List UInt8 := [61, 132, 3, 1, 167, 255, 232, 28, 172]
abbrev dktX1_allTake_1 : List UInt8 := dkwX1_allTake_1 ++ []
def dkwX1_allTake_0 : List UInt8 := [3, 61, 3, 62, 29, 42, 180, 0, 101, 180, 0, 42, 162, 0, 19, 28, 42, 29, 27, 3, 182, 0, 174, 96]
abbrev dktX1_allTake_0 : List UInt8 := dkwX1_allTake_0 ++ dktX1_allTake_1
theorem dksX1_allTake_0 : cX1_allTake.data.toList.drop 0 = dktX1_allTake_0 := by decide +kernel
theorem dksX1_allTake_1 : cX1_allTake.data.toList.drop 24 = dktX1_allTake_1 := dk_seg dksX1_allTake_0 24 rfl rfl
theorem dX1_allTake_0 : decode cX1_allTake 0 = .ok (.iconst 0, 1) := dk_3 (dk_at dksX1_allTake_0 0 rfl rfl)
theorem dX1_allTake_1 : decode cX1_allTake 1 = .ok (.istore_n 2, 1) := dk_61 (dk_at dksX1_allTake_0 1 rfl rfl)
theorem dX1_allTake_2 : decode cX1_allTake 2 = .ok (.iconst 0, 1) := dk_3 (dk_at dksX1_allTake_0 2 rfl rfl)
theorem dX1_allTake_3 : decode cX1_allTake 3 = .ok (.istore_n 3, 1) := dk_62 (dk_at dksX1_allTake_0 3 rfl rfl)
theorem dX1_allTake_4 : decode cX1_allTake 4 = .ok (.iload_n 3, 1) := dk_29 (dk_at dksX1_allTake_0 4 rfl rfl)
theorem dX1_allTake_5 : decode cX1_allTake 5 = .ok (.aload_n 0, 1) := dk_42 (dk_at dksX1_allTake_0 5 rfl rfl)
theorem dX1_allTake_6 : decode cX1_allTake 6 = .ok (.getfield 101, 3) := dk_180 0 101 (dk_at dksX1_allTake_0 6 rfl rfl)
theorem dX1_allTake_9 : decode cX1_allTake 9 = .ok (.getfield 42, 3) := dk_180 0 42 (dk_at dksX1_allTake_0 9 rfl rfl)
theorem dX1_allTake_12 : decode cX1_allTake 12 = .ok (.if_icmp .ge 19, 3) := dk_162 0 19 (dk_at dksX1_allTake_0 12 rfl rfl)
theorem dX1_allTake_15 : decode cX1_allTake 15 = .ok (.iload_n 2, 1) := dk_28 (dk_at dksX1_allTake_0 15 rfl rfl)
theorem dX1_allTake_16 : decode cX1_allTake 16 = .ok (.aload_n 0, 1) := dk_42 (dk_at dksX1_allTake_0 16 rfl rfl)
theorem dX1_allTake_17 : decode cX1_allTake 17 = .ok (.iload_n 3, 1) := dk_29 (dk_at dksX1_allTake_0 17 rfl rfl)
theorem dX1_allTake_18 : decode cX1_allTake 18 = .ok (.iload_n 1, 1) := dk_27 (dk_at dksX1_allTake_0 18 rfl rfl)
theorem dX1_allTake_19 : decode cX1_allTake 19 = .ok (.iconst 0, 1) := dk_3 (dk_at dksX1_allTake_0 19 rfl rfl)
theorem dX1_allTake_20 : decode cX1_allTake 20 = .ok (.invokevirtual 174, 3) := dk_182 0 174 (dk_at dksX1_allTake_0 20 rfl rfl)
theorem dX1_allTake_23 : decode cX1_allTake 23 = .ok (.iadd, 1) := dk_96 (dk_at dksX1_allTake_0 23 rfl rfl)
theorem dX1_allTake_24 : decode cX1_allTake 24 = .ok (.istore_n 2, 1) := dk_61 (dk_at dksX1_allTake_1 0 rfl rfl)
theorem dX1_allTake_25 : decode cX1_allTake 25 = .ok (.iinc 3 1, 3) := dk_132 3 1 (dk_at dksX1_allTake_1 1 rfl rfl)
theorem dX1_allTake_28 : decode cX1_allTake 28 = .ok (.goto (-24), 3) := dk_167 255 232 (dk_at dksX1_allTake_1 4 rfl rfl)
theorem dX1_allTake_31 : decode cX1_allTake 31 = .ok (.iload_n 2, 1) := dk_28 (dk_at dksX1_allTake_1 7 rfl rfl)
theorem dX1_allTake_32 : decode cX1_allTake 32 = .ok (.ireturn, 1) := dk_172 (dk_at dksX1_allTake_1 8 rfl rfl)
abbrev cX1_spread : ByteArray := prog_1_method_37_code
def yX1_spread : MethodName := ⟨RX1, "spread", "()I"⟩
def dkwX1_spread_4 : List UInt8 := [184, 0, 214, 61, 132, 4, 1, 167, 255, 179, 132, 3, 1, 167, 255, 157, 27, 172]
abbrev dktX1_spread_4 : List UInt8 := dkwX1_spread_4 ++ []
def dkwX1_spread_3 : List UInt8 := [21, 4, 96, 60, 42, 180, 0, 101, 180, 0, 155, 29, 46, 42, 180, 0, 101, 180, 0, 155, 21, 4, 46, 100]
abbrev dktX1_spread_3 : List UInt8 := dkwX1_spread_3 ++ dktX1_spread_4
def dkwX1_spread_2 : List UInt8 := [180, 0, 101, 180, 0, 155, 21, 4, 46, 100, 184, 0, 214, 28, 163, 0, 6, 167, 0, 35, 16, 10, 29, 104]
abbrev dktX1_spread_2 : List UInt8 := dkwX1_spread_2 ++ dktX1_spread_3
def dkwX1_spread_1 : List UInt8 := [21, 4, 42, 180, 0, 101, 180, 0, 42, 162, 0, 71, 42, 180, 0, 101, 180, 0, 155, 29, 46, 42]
abbrev dktX1_spread_1 : List UInt8 := dkwX1_spread_1 ++ dktX1_spread_2
def dkwX1_spread_0 : List UInt8 := [16, 252, 60, 16, 252, 61, 3, 62, 29, 42, 180, 0, 101, 180, 0, 42, 162, 0, 94, 29, 4, 96, 54, 4]
abbrev dktX1_spread_0 : List UInt8 := dkwX1_spread_0 ++ dktX1_spread_1
theorem dksX1_spread_0 : cX1_spread.data.toList.drop 0 = dktX1_spread_0 := by decide +kernel
theorem dksX1_spread_1 : cX1_spread.data.toList.drop 24 = dktX1_spread_1 := dk_seg dksX1_spread_0 24 rfl rfl
theorem dksX1_spread_2 : cX1_spread.data.toList.drop 46 = dktX1_spread_2 := dk_seg dksX1_spread_1 22 rfl rfl
theorem dksX1_spread_3 : cX1_spread.data.toList.drop 70 = dktX1_spread_3 := dk_seg dksX1_spread_2 24 rfl rfl
theorem dksX1_spread_4 : cX1_spread.data.toList.drop 94 = dktX1_spread_4 := dk_seg dksX1_spread_3 24 rfl rfl
theorem dX1_spread_0 : decode cX1_spread 0 = .ok (.bipush (-4), 2) := dk_16 252 (dk_at dksX1_spread_0 0 rfl rfl)
theorem dX1_spread_2 : decode cX1_spread 2 = .ok (.istore_n 1, 1) := dk_60 (dk_at dksX1_spread_0 2 rfl rfl)
theorem dX1_spread_3 : decode cX1_spread 3 = .ok (.bipush (-4), 2) := dk_16 252 (dk_at dksX1_spread_0 3 rfl rfl)
theorem dX1_spread_5 : decode cX1_spread 5 = .ok (.istore_n 2, 1) := dk_61 (dk_at dksX1_spread_0 5 rfl rfl)
theorem dX1_spread_6 : decode cX1_spread 6 = .ok (.iconst 0, 1) := dk_3 (dk_at dksX1_spread_0 6 rfl rfl)
theorem dX1_spread_7 : decode cX1_spread 7 = .ok (.istore_n 3, 1) := dk_62 (dk_at dksX1_spread_0 7 rfl rfl)
theorem dX1_spread_8 : decode cX1_spread 8 = .ok (.iload_n 3, 1) := dk_29 (dk_at dksX1_spread_0 8 rfl rfl)
theorem dX1_spread_9 : decode cX1_spread 9 = .ok (.aload_n 0, 1) := dk_42 (dk_at dksX1_spread_0 9 rfl rfl)
theorem dX1_spread_10 : decode cX1_spread 10 = .ok (.getfield 101, 3) := dk_180 0 101 (dk_at dksX1_spread_0 10 rfl rfl)
theorem dX1_spread_13 : decode cX1_spread 13 = .ok (.getfield 42, 3) := dk_180 0 42 (dk_at dksX1_spread_0 13 rfl rfl)
theorem dX1_spread_16 : decode cX1_spread 16 = .ok (.if_icmp .ge 94, 3) := dk_162 0 94 (dk_at dksX1_spread_0 16 rfl rfl)
theorem dX1_spread_19 : decode cX1_spread 19 = .ok (.iload_n 3, 1) := dk_29 (dk_at dksX1_spread_0 19 rfl rfl)
theorem dX1_spread_20 : decode cX1_spread 20 = .ok (.iconst 1, 1) := dk_4 (dk_at dksX1_spread_0 20 rfl rfl)
theorem dX1_spread_21 : decode cX1_spread 21 = .ok (.iadd, 1) := dk_96 (dk_at dksX1_spread_0 21 rfl rfl)
theorem dX1_spread_22 : decode cX1_spread 22 = .ok (.istore 4, 2) := dk_54 4 (dk_at dksX1_spread_0 22 rfl rfl)
theorem dX1_spread_24 : decode cX1_spread 24 = .ok (.iload 4, 2) := dk_21 4 (dk_at dksX1_spread_1 0 rfl rfl)
theorem dX1_spread_26 : decode cX1_spread 26 = .ok (.aload_n 0, 1) := dk_42 (dk_at dksX1_spread_1 2 rfl rfl)
theorem dX1_spread_27 : decode cX1_spread 27 = .ok (.getfield 101, 3) := dk_180 0 101 (dk_at dksX1_spread_1 3 rfl rfl)
theorem dX1_spread_30 : decode cX1_spread 30 = .ok (.getfield 42, 3) := dk_180 0 42 (dk_at dksX1_spread_1 6 rfl rfl)
theorem dX1_spread_33 : decode cX1_spread 33 = .ok (.if_icmp .ge 71, 3) := dk_162 0 71 (dk_at dksX1_spread_1 9 rfl rfl)
theorem dX1_spread_36 : decode cX1_spread 36 = .ok (.aload_n 0, 1) := dk_42 (dk_at dksX1_spread_1 12 rfl rfl)
theorem dX1_spread_37 : decode cX1_spread 37 = .ok (.getfield 101, 3) := dk_180 0 101 (dk_at dksX1_spread_1 13 rfl rfl)
theorem dX1_spread_40 : decode cX1_spread 40 = .ok (.getfield 155, 3) := dk_180 0 155 (dk_at dksX1_spread_1 16 rfl rfl)
theorem dX1_spread_43 : decode cX1_spread 43 = .ok (.iload_n 3, 1) := dk_29 (dk_at dksX1_spread_1 19 rfl rfl)
theorem dX1_spread_44 : decode cX1_spread 44 = .ok (.iaload, 1) := dk_46 (dk_at dksX1_spread_1 20 rfl rfl)
theorem dX1_spread_45 : decode cX1_spread 45 = .ok (.aload_n 0, 1) := dk_42 (dk_at dksX1_spread_1 21 rfl rfl)
theorem dX1_spread_46 : decode cX1_spread 46 = .ok (.getfield 101, 3) := dk_180 0 101 (dk_at dksX1_spread_2 0 rfl rfl)
theorem dX1_spread_49 : decode cX1_spread 49 = .ok (.getfield 155, 3) := dk_180 0 155 (dk_at dksX1_spread_2 3 rfl rfl)
theorem dX1_spread_52 : decode cX1_spread 52 = .ok (.iload 4, 2) := dk_21 4 (dk_at dksX1_spread_2 6 rfl rfl)
theorem dX1_spread_54 : decode cX1_spread 54 = .ok (.iaload, 1) := dk_46 (dk_at dksX1_spread_2 8 rfl rfl)
theorem dX1_spread_55 : decode cX1_spread 55 = .ok (.isub, 1) := dk_100 (dk_at dksX1_spread_2 9 rfl rfl)
theorem dX1_spread_56 : decode cX1_spread 56 = .ok (.invokestatic 214, 3) := dk_184 0 214 (dk_at dksX1_spread_2 10 rfl rfl)
theorem dX1_spread_59 : decode cX1_spread 59 = .ok (.iload_n 2, 1) := dk_28 (dk_at dksX1_spread_2 13 rfl rfl)
theorem dX1_spread_60 : decode cX1_spread 60 = .ok (.if_icmp .gt 6, 3) := dk_163 0 6 (dk_at dksX1_spread_2 14 rfl rfl)
theorem dX1_spread_63 : decode cX1_spread 63 = .ok (.goto 35, 3) := dk_167 0 35 (dk_at dksX1_spread_2 17 rfl rfl)
theorem dX1_spread_66 : decode cX1_spread 66 = .ok (.bipush 10, 2) := dk_16 10 (dk_at dksX1_spread_2 20 rfl rfl)
theorem dX1_spread_68 : decode cX1_spread 68 = .ok (.iload_n 3, 1) := dk_29 (dk_at dksX1_spread_2 22 rfl rfl)
theorem dX1_spread_69 : decode cX1_spread 69 = .ok (.imul, 1) := dk_104 (dk_at dksX1_spread_2 23 rfl rfl)
theorem dX1_spread_70 : decode cX1_spread 70 = .ok (.iload 4, 2) := dk_21 4 (dk_at dksX1_spread_3 0 rfl rfl)
theorem dX1_spread_72 : decode cX1_spread 72 = .ok (.iadd, 1) := dk_96 (dk_at dksX1_spread_3 2 rfl rfl)
theorem dX1_spread_73 : decode cX1_spread 73 = .ok (.istore_n 1, 1) := dk_60 (dk_at dksX1_spread_3 3 rfl rfl)
theorem dX1_spread_74 : decode cX1_spread 74 = .ok (.aload_n 0, 1) := dk_42 (dk_at dksX1_spread_3 4 rfl rfl)
theorem dX1_spread_75 : decode cX1_spread 75 = .ok (.getfield 101, 3) := dk_180 0 101 (dk_at dksX1_spread_3 5 rfl rfl)
theorem dX1_spread_78 : decode cX1_spread 78 = .ok (.getfield 155, 3) := dk_180 0 155 (dk_at dksX1_spread_3 8 rfl rfl)
theorem dX1_spread_81 : decode cX1_spread 81 = .ok (.iload_n 3, 1) := dk_29 (dk_at dksX1_spread_3 11 rfl rfl)
theorem dX1_spread_82 : decode cX1_spread 82 = .ok (.iaload, 1) := dk_46 (dk_at dksX1_spread_3 12 rfl rfl)
theorem dX1_spread_83 : decode cX1_spread 83 = .ok (.aload_n 0, 1) := dk_42 (dk_at dksX1_spread_3 13 rfl rfl)
theorem dX1_spread_84 : decode cX1_spread 84 = .ok (.getfield 101, 3) := dk_180 0 101 (dk_at dksX1_spread_3 14 rfl rfl)
theorem dX1_spread_87 : decode cX1_spread 87 = .ok (.getfield 155, 3) := dk_180 0 155 (dk_at dksX1_spread_3 17 rfl rfl)
theorem dX1_spread_90 : decode cX1_spread 90 = .ok (.iload 4, 2) := dk_21 4 (dk_at dksX1_spread_3 20 rfl rfl)
theorem dX1_spread_92 : decode cX1_spread 92 = .ok (.iaload, 1) := dk_46 (dk_at dksX1_spread_3 22 rfl rfl)
theorem dX1_spread_93 : decode cX1_spread 93 = .ok (.isub, 1) := dk_100 (dk_at dksX1_spread_3 23 rfl rfl)
theorem dX1_spread_94 : decode cX1_spread 94 = .ok (.invokestatic 214, 3) := dk_184 0 214 (dk_at dksX1_spread_4 0 rfl rfl)
theorem dX1_spread_97 : decode cX1_spread 97 = .ok (.istore_n 2, 1) := dk_61 (dk_at dksX1_spread_4 3 rfl rfl)
theorem dX1_spread_98 : decode cX1_spread 98 = .ok (.iinc 4 1, 3) := dk_132 4 1 (dk_at dksX1_spread_4 4 rfl rfl)
theorem dX1_spread_101 : decode cX1_spread 101 = .ok (.goto (-77), 3) := dk_167 255 179 (dk_at dksX1_spread_4 7 rfl rfl)
theorem dX1_spread_104 : decode cX1_spread 104 = .ok (.iinc 3 1, 3) := dk_132 3 1 (dk_at dksX1_spread_4 10 rfl rfl)
theorem dX1_spread_107 : decode cX1_spread 107 = .ok (.goto (-99), 3) := dk_167 255 157 (dk_at dksX1_spread_4 13 rfl rfl)
theorem dX1_spread_110 : decode cX1_spread 110 = .ok (.iload_n 1, 1) := dk_27 (dk_at dksX1_spread_4 16 rfl rfl)
theorem dX1_spread_111 : decode cX1_spread 111 = .ok (.ireturn, 1) := dk_172 (dk_at dksX1_spread_4 17 rfl rfl)
abbrev cX1_fees : ByteArray := prog_1_method_39_code
def yX1_fees : MethodName := ⟨RX1, "fees", "(II)I"⟩
def dkwX1_fees_3 : List UInt8 := [162, 0, 6, 21, 4, 62, 132, 4, 1, 167, 255, 218, 29, 172]
abbrev dktX1_fees_3 : List UInt8 := dkwX1_fees_3 ++ []
def dkwX1_fees_2 : List UInt8 := [180, 0, 42, 162, 0, 32, 29, 155, 0, 19, 42, 21, 4, 28, 182, 0, 222, 42, 29, 28, 182, 0, 222]
abbrev dktX1_fees_2 : List UInt8 := dkwX1_fees_2 ++ dktX1_fees_3
def dkwX1_fees_1 : List UInt8 := [172, 27, 155, 0, 10, 42, 27, 28, 182, 0, 222, 172, 16, 252, 62, 3, 54, 4, 21, 4, 42, 180, 0, 101]
abbrev dktX1_fees_1 : List UInt8 := dkwX1_fees_1 ++ dktX1_fees_2
def dkwX1_fees_0 : List UInt8 := [27, 2, 161, 0, 21, 27, 42, 180, 0, 101, 180, 0, 42, 162, 0, 10, 28, 184, 0, 34, 154, 0, 5, 2]
abbrev dktX1_fees_0 : List UInt8 := dkwX1_fees_0 ++ dktX1_fees_1
theorem dksX1_fees_0 : cX1_fees.data.toList.drop 0 = dktX1_fees_0 := by decide +kernel
theorem dksX1_fees_1 : cX1_fees.data.toList.drop 24 = dktX1_fees_1 := dk_seg dksX1_fees_0 24 rfl rfl
theorem dksX1_fees_2 : cX1_fees.data.toList.drop 48 = dktX1_fees_2 := dk_seg dksX1_fees_1 24 rfl rfl
theorem dksX1_fees_3 : cX1_fees.data.toList.drop 71 = dktX1_fees_3 := dk_seg dksX1_fees_2 23 rfl rfl
theorem dX1_fees_0 : decode cX1_fees 0 = .ok (.iload_n 1, 1) := dk_27 (dk_at dksX1_fees_0 0 rfl rfl)
theorem dX1_fees_1 : decode cX1_fees 1 = .ok (.iconst (-1), 1) := dk_2 (dk_at dksX1_fees_0 1 rfl rfl)
theorem dX1_fees_2 : decode cX1_fees 2 = .ok (.if_icmp .lt 21, 3) := dk_161 0 21 (dk_at dksX1_fees_0 2 rfl rfl)
theorem dX1_fees_5 : decode cX1_fees 5 = .ok (.iload_n 1, 1) := dk_27 (dk_at dksX1_fees_0 5 rfl rfl)
theorem dX1_fees_6 : decode cX1_fees 6 = .ok (.aload_n 0, 1) := dk_42 (dk_at dksX1_fees_0 6 rfl rfl)
theorem dX1_fees_7 : decode cX1_fees 7 = .ok (.getfield 101, 3) := dk_180 0 101 (dk_at dksX1_fees_0 7 rfl rfl)
theorem dX1_fees_10 : decode cX1_fees 10 = .ok (.getfield 42, 3) := dk_180 0 42 (dk_at dksX1_fees_0 10 rfl rfl)
theorem dX1_fees_13 : decode cX1_fees 13 = .ok (.if_icmp .ge 10, 3) := dk_162 0 10 (dk_at dksX1_fees_0 13 rfl rfl)
theorem dX1_fees_16 : decode cX1_fees 16 = .ok (.iload_n 2, 1) := dk_28 (dk_at dksX1_fees_0 16 rfl rfl)
theorem dX1_fees_17 : decode cX1_fees 17 = .ok (.invokestatic 34, 3) := dk_184 0 34 (dk_at dksX1_fees_0 17 rfl rfl)
theorem dX1_fees_20 : decode cX1_fees 20 = .ok (.ifCond .ne 5, 3) := dk_154 0 5 (dk_at dksX1_fees_0 20 rfl rfl)
theorem dX1_fees_23 : decode cX1_fees 23 = .ok (.iconst (-1), 1) := dk_2 (dk_at dksX1_fees_0 23 rfl rfl)
theorem dX1_fees_24 : decode cX1_fees 24 = .ok (.ireturn, 1) := dk_172 (dk_at dksX1_fees_1 0 rfl rfl)
theorem dX1_fees_25 : decode cX1_fees 25 = .ok (.iload_n 1, 1) := dk_27 (dk_at dksX1_fees_1 1 rfl rfl)
theorem dX1_fees_26 : decode cX1_fees 26 = .ok (.ifCond .lt 10, 3) := dk_155 0 10 (dk_at dksX1_fees_1 2 rfl rfl)
theorem dX1_fees_29 : decode cX1_fees 29 = .ok (.aload_n 0, 1) := dk_42 (dk_at dksX1_fees_1 5 rfl rfl)
theorem dX1_fees_30 : decode cX1_fees 30 = .ok (.iload_n 1, 1) := dk_27 (dk_at dksX1_fees_1 6 rfl rfl)
theorem dX1_fees_31 : decode cX1_fees 31 = .ok (.iload_n 2, 1) := dk_28 (dk_at dksX1_fees_1 7 rfl rfl)
theorem dX1_fees_32 : decode cX1_fees 32 = .ok (.invokevirtual 222, 3) := dk_182 0 222 (dk_at dksX1_fees_1 8 rfl rfl)
theorem dX1_fees_35 : decode cX1_fees 35 = .ok (.ireturn, 1) := dk_172 (dk_at dksX1_fees_1 11 rfl rfl)
theorem dX1_fees_36 : decode cX1_fees 36 = .ok (.bipush (-4), 2) := dk_16 252 (dk_at dksX1_fees_1 12 rfl rfl)
theorem dX1_fees_38 : decode cX1_fees 38 = .ok (.istore_n 3, 1) := dk_62 (dk_at dksX1_fees_1 14 rfl rfl)
theorem dX1_fees_39 : decode cX1_fees 39 = .ok (.iconst 0, 1) := dk_3 (dk_at dksX1_fees_1 15 rfl rfl)
theorem dX1_fees_40 : decode cX1_fees 40 = .ok (.istore 4, 2) := dk_54 4 (dk_at dksX1_fees_1 16 rfl rfl)
theorem dX1_fees_42 : decode cX1_fees 42 = .ok (.iload 4, 2) := dk_21 4 (dk_at dksX1_fees_1 18 rfl rfl)
theorem dX1_fees_44 : decode cX1_fees 44 = .ok (.aload_n 0, 1) := dk_42 (dk_at dksX1_fees_1 20 rfl rfl)
theorem dX1_fees_45 : decode cX1_fees 45 = .ok (.getfield 101, 3) := dk_180 0 101 (dk_at dksX1_fees_1 21 rfl rfl)
theorem dX1_fees_48 : decode cX1_fees 48 = .ok (.getfield 42, 3) := dk_180 0 42 (dk_at dksX1_fees_2 0 rfl rfl)
theorem dX1_fees_51 : decode cX1_fees 51 = .ok (.if_icmp .ge 32, 3) := dk_162 0 32 (dk_at dksX1_fees_2 3 rfl rfl)
theorem dX1_fees_54 : decode cX1_fees 54 = .ok (.iload_n 3, 1) := dk_29 (dk_at dksX1_fees_2 6 rfl rfl)
theorem dX1_fees_55 : decode cX1_fees 55 = .ok (.ifCond .lt 19, 3) := dk_155 0 19 (dk_at dksX1_fees_2 7 rfl rfl)
theorem dX1_fees_58 : decode cX1_fees 58 = .ok (.aload_n 0, 1) := dk_42 (dk_at dksX1_fees_2 10 rfl rfl)
theorem dX1_fees_59 : decode cX1_fees 59 = .ok (.iload 4, 2) := dk_21 4 (dk_at dksX1_fees_2 11 rfl rfl)
theorem dX1_fees_61 : decode cX1_fees 61 = .ok (.iload_n 2, 1) := dk_28 (dk_at dksX1_fees_2 13 rfl rfl)
theorem dX1_fees_62 : decode cX1_fees 62 = .ok (.invokevirtual 222, 3) := dk_182 0 222 (dk_at dksX1_fees_2 14 rfl rfl)
theorem dX1_fees_65 : decode cX1_fees 65 = .ok (.aload_n 0, 1) := dk_42 (dk_at dksX1_fees_2 17 rfl rfl)
theorem dX1_fees_66 : decode cX1_fees 66 = .ok (.iload_n 3, 1) := dk_29 (dk_at dksX1_fees_2 18 rfl rfl)
theorem dX1_fees_67 : decode cX1_fees 67 = .ok (.iload_n 2, 1) := dk_28 (dk_at dksX1_fees_2 19 rfl rfl)
theorem dX1_fees_68 : decode cX1_fees 68 = .ok (.invokevirtual 222, 3) := dk_182 0 222 (dk_at dksX1_fees_2 20 rfl rfl)
theorem dX1_fees_71 : decode cX1_fees 71 = .ok (.if_icmp .ge 6, 3) := dk_162 0 6 (dk_at dksX1_fees_3 0 rfl rfl)
theorem dX1_fees_74 : decode cX1_fees 74 = .ok (.iload 4, 2) := dk_21 4 (dk_at dksX1_fees_3 3 rfl rfl)
theorem dX1_fees_76 : decode cX1_fees 76 = .ok (.istore_n 3, 1) := dk_62 (dk_at dksX1_fees_3 5 rfl rfl)
theorem dX1_fees_77 : decode cX1_fees 77 = .ok (.iinc 4 1, 3) := dk_132 4 1 (dk_at dksX1_fees_3 6 rfl rfl)
theorem dX1_fees_80 : decode cX1_fees 80 = .ok (.goto (-38), 3) := dk_167 255 218 (dk_at dksX1_fees_3 9 rfl rfl)
theorem dX1_fees_83 : decode cX1_fees 83 = .ok (.iload_n 3, 1) := dk_29 (dk_at dksX1_fees_3 12 rfl rfl)
theorem dX1_fees_84 : decode cX1_fees 84 = .ok (.ireturn, 1) := dk_172 (dk_at dksX1_fees_3 13 rfl rfl)
abbrev cX1_feesOf : ByteArray := prog_1_method_38_code
def yX1_feesOf : MethodName := ⟨RX1, "feesOf", "(II)I"⟩
def dkwX1_feesOf_0 : List UInt8 := [42, 180, 0, 101, 180, 0, 141, 27, 50, 182, 0, 219, 42, 27, 28, 3, 182, 0, 174, 104, 172]
abbrev dktX1_feesOf_0 : List UInt8 := dkwX1_feesOf_0 ++ []
theorem dksX1_feesOf_0 : cX1_feesOf.data.toList.drop 0 = dktX1_feesOf_0 := by decide +kernel
theorem dX1_feesOf_0 : decode cX1_feesOf 0 = .ok (.aload_n 0, 1) := dk_42 (dk_at dksX1_feesOf_0 0 rfl rfl)
theorem dX1_feesOf_1 : decode cX1_feesOf 1 = .ok (.getfield 101, 3) := dk_180 0 101 (dk_at dksX1_feesOf_0 1 rfl rfl)
theorem dX1_feesOf_4 : decode cX1_feesOf 4 = .ok (.getfield 141, 3) := dk_180 0 141 (dk_at dksX1_feesOf_0 4 rfl rfl)
theorem dX1_feesOf_7 : decode cX1_feesOf 7 = .ok (.iload_n 1, 1) := dk_27 (dk_at dksX1_feesOf_0 7 rfl rfl)
theorem dX1_feesOf_8 : decode cX1_feesOf 8 = .ok (.aaload, 1) := dk_50 (dk_at dksX1_feesOf_0 8 rfl rfl)
theorem dX1_feesOf_9 : decode cX1_feesOf 9 = .ok (.invokevirtual 219, 3) := dk_182 0 219 (dk_at dksX1_feesOf_0 9 rfl rfl)
theorem dX1_feesOf_12 : decode cX1_feesOf 12 = .ok (.aload_n 0, 1) := dk_42 (dk_at dksX1_feesOf_0 12 rfl rfl)
theorem dX1_feesOf_13 : decode cX1_feesOf 13 = .ok (.iload_n 1, 1) := dk_27 (dk_at dksX1_feesOf_0 13 rfl rfl)
theorem dX1_feesOf_14 : decode cX1_feesOf 14 = .ok (.iload_n 2, 1) := dk_28 (dk_at dksX1_feesOf_0 14 rfl rfl)
theorem dX1_feesOf_15 : decode cX1_feesOf 15 = .ok (.iconst 0, 1) := dk_3 (dk_at dksX1_feesOf_0 15 rfl rfl)
theorem dX1_feesOf_16 : decode cX1_feesOf 16 = .ok (.invokevirtual 174, 3) := dk_182 0 174 (dk_at dksX1_feesOf_0 16 rfl rfl)
theorem dX1_feesOf_19 : decode cX1_feesOf 19 = .ok (.imul, 1) := dk_104 (dk_at dksX1_feesOf_0 19 rfl rfl)
theorem dX1_feesOf_20 : decode cX1_feesOf 20 = .ok (.ireturn, 1) := dk_172 (dk_at dksX1_feesOf_0 20 rfl rfl)
abbrev cX1_homes : ByteArray := prog_1_method_47_code
def yX1_homes : MethodName := ⟨RX1, "homes", "(IIII)I"⟩
def dkwX1_homes_5 : List UInt8 := [154, 0, 8, 21, 6, 167, 0, 8, 21, 6, 184, 1, 8, 172]
abbrev dktX1_homes_5 : List UInt8 := dkwX1_homes_5 ++ []
def dkwX1_homes_4 : List UInt8 := [153, 0, 10, 4, 21, 7, 120, 167, 0, 4, 3, 128, 54, 6, 132, 7, 1, 167, 255, 200, 21, 4]
abbrev dktX1_homes_4 : List UInt8 := dkwX1_homes_4 ++ dktX1_homes_5
def dkwX1_homes_3 : List UInt8 := [180, 0, 152, 28, 21, 7, 79, 21, 6, 42, 42, 180, 0, 120, 27, 50, 180, 0, 124, 28, 29, 182, 1, 4]
abbrev dktX1_homes_3 : List UInt8 := dkwX1_homes_3 ++ dktX1_homes_4
def dkwX1_homes_2 : List UInt8 := [172, 3, 54, 6, 3, 54, 7, 21, 7, 16, 21, 162, 0, 55, 42, 182, 0, 167, 42, 180, 0, 38]
abbrev dktX1_homes_2 : List UInt8 := dkwX1_homes_2 ++ dktX1_homes_3
def dkwX1_homes_1 : List UInt8 := [184, 0, 30, 153, 0, 11, 42, 27, 182, 1, 1, 167, 0, 4, 2, 54, 5, 21, 5, 153, 0, 6, 21, 5]
abbrev dktX1_homes_1 : List UInt8 := dkwX1_homes_1 ++ dktX1_homes_2
def dkwX1_homes_0 : List UInt8 := [42, 180, 0, 101, 28, 182, 0, 69, 153, 0, 28, 29, 184, 0, 34, 153, 0, 21, 21, 4, 3, 4]
abbrev dktX1_homes_0 : List UInt8 := dkwX1_homes_0 ++ dktX1_homes_1
theorem dksX1_homes_0 : cX1_homes.data.toList.drop 0 = dktX1_homes_0 := by decide +kernel
theorem dksX1_homes_1 : cX1_homes.data.toList.drop 22 = dktX1_homes_1 := dk_seg dksX1_homes_0 22 rfl rfl
theorem dksX1_homes_2 : cX1_homes.data.toList.drop 46 = dktX1_homes_2 := dk_seg dksX1_homes_1 24 rfl rfl
theorem dksX1_homes_3 : cX1_homes.data.toList.drop 68 = dktX1_homes_3 := dk_seg dksX1_homes_2 22 rfl rfl
theorem dksX1_homes_4 : cX1_homes.data.toList.drop 92 = dktX1_homes_4 := dk_seg dksX1_homes_3 24 rfl rfl
theorem dksX1_homes_5 : cX1_homes.data.toList.drop 114 = dktX1_homes_5 := dk_seg dksX1_homes_4 22 rfl rfl
theorem dX1_homes_0 : decode cX1_homes 0 = .ok (.aload_n 0, 1) := dk_42 (dk_at dksX1_homes_0 0 rfl rfl)
theorem dX1_homes_1 : decode cX1_homes 1 = .ok (.getfield 101, 3) := dk_180 0 101 (dk_at dksX1_homes_0 1 rfl rfl)
theorem dX1_homes_4 : decode cX1_homes 4 = .ok (.iload_n 2, 1) := dk_28 (dk_at dksX1_homes_0 4 rfl rfl)
theorem dX1_homes_5 : decode cX1_homes 5 = .ok (.invokevirtual 69, 3) := dk_182 0 69 (dk_at dksX1_homes_0 5 rfl rfl)
theorem dX1_homes_8 : decode cX1_homes 8 = .ok (.ifCond .eq 28, 3) := dk_153 0 28 (dk_at dksX1_homes_0 8 rfl rfl)
theorem dX1_homes_11 : decode cX1_homes 11 = .ok (.iload_n 3, 1) := dk_29 (dk_at dksX1_homes_0 11 rfl rfl)
theorem dX1_homes_12 : decode cX1_homes 12 = .ok (.invokestatic 34, 3) := dk_184 0 34 (dk_at dksX1_homes_0 12 rfl rfl)
theorem dX1_homes_15 : decode cX1_homes 15 = .ok (.ifCond .eq 21, 3) := dk_153 0 21 (dk_at dksX1_homes_0 15 rfl rfl)
theorem dX1_homes_18 : decode cX1_homes 18 = .ok (.iload 4, 2) := dk_21 4 (dk_at dksX1_homes_0 18 rfl rfl)
theorem dX1_homes_20 : decode cX1_homes 20 = .ok (.iconst 0, 1) := dk_3 (dk_at dksX1_homes_0 20 rfl rfl)
theorem dX1_homes_21 : decode cX1_homes 21 = .ok (.iconst 1, 1) := dk_4 (dk_at dksX1_homes_0 21 rfl rfl)
theorem dX1_homes_22 : decode cX1_homes 22 = .ok (.invokestatic 30, 3) := dk_184 0 30 (dk_at dksX1_homes_1 0 rfl rfl)
theorem dX1_homes_25 : decode cX1_homes 25 = .ok (.ifCond .eq 11, 3) := dk_153 0 11 (dk_at dksX1_homes_1 3 rfl rfl)
theorem dX1_homes_28 : decode cX1_homes 28 = .ok (.aload_n 0, 1) := dk_42 (dk_at dksX1_homes_1 6 rfl rfl)
theorem dX1_homes_29 : decode cX1_homes 29 = .ok (.iload_n 1, 1) := dk_27 (dk_at dksX1_homes_1 7 rfl rfl)
theorem dX1_homes_30 : decode cX1_homes 30 = .ok (.invokevirtual 257, 3) := dk_182 1 1 (dk_at dksX1_homes_1 8 rfl rfl)
theorem dX1_homes_33 : decode cX1_homes 33 = .ok (.goto 4, 3) := dk_167 0 4 (dk_at dksX1_homes_1 11 rfl rfl)
theorem dX1_homes_36 : decode cX1_homes 36 = .ok (.iconst (-1), 1) := dk_2 (dk_at dksX1_homes_1 14 rfl rfl)
theorem dX1_homes_37 : decode cX1_homes 37 = .ok (.istore 5, 2) := dk_54 5 (dk_at dksX1_homes_1 15 rfl rfl)
theorem dX1_homes_39 : decode cX1_homes 39 = .ok (.iload 5, 2) := dk_21 5 (dk_at dksX1_homes_1 17 rfl rfl)
theorem dX1_homes_41 : decode cX1_homes 41 = .ok (.ifCond .eq 6, 3) := dk_153 0 6 (dk_at dksX1_homes_1 19 rfl rfl)
theorem dX1_homes_44 : decode cX1_homes 44 = .ok (.iload 5, 2) := dk_21 5 (dk_at dksX1_homes_1 22 rfl rfl)
theorem dX1_homes_46 : decode cX1_homes 46 = .ok (.ireturn, 1) := dk_172 (dk_at dksX1_homes_2 0 rfl rfl)
theorem dX1_homes_47 : decode cX1_homes 47 = .ok (.iconst 0, 1) := dk_3 (dk_at dksX1_homes_2 1 rfl rfl)
theorem dX1_homes_48 : decode cX1_homes 48 = .ok (.istore 6, 2) := dk_54 6 (dk_at dksX1_homes_2 2 rfl rfl)
theorem dX1_homes_50 : decode cX1_homes 50 = .ok (.iconst 0, 1) := dk_3 (dk_at dksX1_homes_2 4 rfl rfl)
theorem dX1_homes_51 : decode cX1_homes 51 = .ok (.istore 7, 2) := dk_54 7 (dk_at dksX1_homes_2 5 rfl rfl)
theorem dX1_homes_53 : decode cX1_homes 53 = .ok (.iload 7, 2) := dk_21 7 (dk_at dksX1_homes_2 7 rfl rfl)
theorem dX1_homes_55 : decode cX1_homes 55 = .ok (.bipush 21, 2) := dk_16 21 (dk_at dksX1_homes_2 9 rfl rfl)
theorem dX1_homes_57 : decode cX1_homes 57 = .ok (.if_icmp .ge 55, 3) := dk_162 0 55 (dk_at dksX1_homes_2 11 rfl rfl)
theorem dX1_homes_60 : decode cX1_homes 60 = .ok (.aload_n 0, 1) := dk_42 (dk_at dksX1_homes_2 14 rfl rfl)
theorem dX1_homes_61 : decode cX1_homes 61 = .ok (.invokevirtual 167, 3) := dk_182 0 167 (dk_at dksX1_homes_2 15 rfl rfl)
theorem dX1_homes_64 : decode cX1_homes 64 = .ok (.aload_n 0, 1) := dk_42 (dk_at dksX1_homes_2 18 rfl rfl)
theorem dX1_homes_65 : decode cX1_homes 65 = .ok (.getfield 38, 3) := dk_180 0 38 (dk_at dksX1_homes_2 19 rfl rfl)
theorem dX1_homes_68 : decode cX1_homes 68 = .ok (.getfield 152, 3) := dk_180 0 152 (dk_at dksX1_homes_3 0 rfl rfl)
theorem dX1_homes_71 : decode cX1_homes 71 = .ok (.iload_n 2, 1) := dk_28 (dk_at dksX1_homes_3 3 rfl rfl)
theorem dX1_homes_72 : decode cX1_homes 72 = .ok (.iload 7, 2) := dk_21 7 (dk_at dksX1_homes_3 4 rfl rfl)
theorem dX1_homes_74 : decode cX1_homes 74 = .ok (.iastore, 1) := dk_79 (dk_at dksX1_homes_3 6 rfl rfl)
theorem dX1_homes_75 : decode cX1_homes 75 = .ok (.iload 6, 2) := dk_21 6 (dk_at dksX1_homes_3 7 rfl rfl)
theorem dX1_homes_77 : decode cX1_homes 77 = .ok (.aload_n 0, 1) := dk_42 (dk_at dksX1_homes_3 9 rfl rfl)
theorem dX1_homes_78 : decode cX1_homes 78 = .ok (.aload_n 0, 1) := dk_42 (dk_at dksX1_homes_3 10 rfl rfl)
theorem dX1_homes_79 : decode cX1_homes 79 = .ok (.getfield 120, 3) := dk_180 0 120 (dk_at dksX1_homes_3 11 rfl rfl)
theorem dX1_homes_82 : decode cX1_homes 82 = .ok (.iload_n 1, 1) := dk_27 (dk_at dksX1_homes_3 14 rfl rfl)
theorem dX1_homes_83 : decode cX1_homes 83 = .ok (.aaload, 1) := dk_50 (dk_at dksX1_homes_3 15 rfl rfl)
theorem dX1_homes_84 : decode cX1_homes 84 = .ok (.getfield 124, 3) := dk_180 0 124 (dk_at dksX1_homes_3 16 rfl rfl)
theorem dX1_homes_87 : decode cX1_homes 87 = .ok (.iload_n 2, 1) := dk_28 (dk_at dksX1_homes_3 19 rfl rfl)
theorem dX1_homes_88 : decode cX1_homes 88 = .ok (.iload_n 3, 1) := dk_29 (dk_at dksX1_homes_3 20 rfl rfl)
theorem dX1_homes_89 : decode cX1_homes 89 = .ok (.invokevirtual 260, 3) := dk_182 1 4 (dk_at dksX1_homes_3 21 rfl rfl)
theorem dX1_homes_92 : decode cX1_homes 92 = .ok (.ifCond .eq 10, 3) := dk_153 0 10 (dk_at dksX1_homes_4 0 rfl rfl)
theorem dX1_homes_95 : decode cX1_homes 95 = .ok (.iconst 1, 1) := dk_4 (dk_at dksX1_homes_4 3 rfl rfl)
theorem dX1_homes_96 : decode cX1_homes 96 = .ok (.iload 7, 2) := dk_21 7 (dk_at dksX1_homes_4 4 rfl rfl)
theorem dX1_homes_98 : decode cX1_homes 98 = .ok (.ishl, 1) := dk_120 (dk_at dksX1_homes_4 6 rfl rfl)
theorem dX1_homes_99 : decode cX1_homes 99 = .ok (.goto 4, 3) := dk_167 0 4 (dk_at dksX1_homes_4 7 rfl rfl)
theorem dX1_homes_102 : decode cX1_homes 102 = .ok (.iconst 0, 1) := dk_3 (dk_at dksX1_homes_4 10 rfl rfl)
theorem dX1_homes_103 : decode cX1_homes 103 = .ok (.ior, 1) := dk_128 (dk_at dksX1_homes_4 11 rfl rfl)
theorem dX1_homes_104 : decode cX1_homes 104 = .ok (.istore 6, 2) := dk_54 6 (dk_at dksX1_homes_4 12 rfl rfl)
theorem dX1_homes_106 : decode cX1_homes 106 = .ok (.iinc 7 1, 3) := dk_132 7 1 (dk_at dksX1_homes_4 14 rfl rfl)
theorem dX1_homes_109 : decode cX1_homes 109 = .ok (.goto (-56), 3) := dk_167 255 200 (dk_at dksX1_homes_4 17 rfl rfl)
theorem dX1_homes_112 : decode cX1_homes 112 = .ok (.iload 4, 2) := dk_21 4 (dk_at dksX1_homes_4 20 rfl rfl)
theorem dX1_homes_114 : decode cX1_homes 114 = .ok (.ifCond .ne 8, 3) := dk_154 0 8 (dk_at dksX1_homes_5 0 rfl rfl)
theorem dX1_homes_117 : decode cX1_homes 117 = .ok (.iload 6, 2) := dk_21 6 (dk_at dksX1_homes_5 3 rfl rfl)
theorem dX1_homes_119 : decode cX1_homes 119 = .ok (.goto 8, 3) := dk_167 0 8 (dk_at dksX1_homes_5 5 rfl rfl)
theorem dX1_homes_122 : decode cX1_homes 122 = .ok (.iload 6, 2) := dk_21 6 (dk_at dksX1_homes_5 8 rfl rfl)
theorem dX1_homes_124 : decode cX1_homes 124 = .ok (.invokestatic 264, 3) := dk_184 1 8 (dk_at dksX1_homes_5 10 rfl rfl)
theorem dX1_homes_127 : decode cX1_homes 127 = .ok (.ireturn, 1) := dk_172 (dk_at dksX1_homes_5 13 rfl rfl)
abbrev cX1_notRow : ByteArray := prog_1_method_45_code
def yX1_notRow : MethodName := ⟨RX1, "notRow", "(I)I"⟩
def dkwX1_notRow_1 : List UInt8 := [16, 245, 167, 0, 17, 44, 184, 0, 243, 2, 160, 0, 8, 16, 244, 167, 0, 4, 3, 172]
abbrev dktX1_notRow_1 : List UInt8 := dkwX1_notRow_1 ++ []
def dkwX1_notRow_0 : List UInt8 := [42, 27, 182, 0, 117, 154, 0, 5, 2, 172, 42, 180, 0, 120, 27, 50, 180, 0, 124, 77, 44, 199, 0, 8]
abbrev dktX1_notRow_0 : List UInt8 := dkwX1_notRow_0 ++ dktX1_notRow_1
theorem dksX1_notRow_0 : cX1_notRow.data.toList.drop 0 = dktX1_notRow_0 := by decide +kernel
theorem dksX1_notRow_1 : cX1_notRow.data.toList.drop 24 = dktX1_notRow_1 := dk_seg dksX1_notRow_0 24 rfl rfl
theorem dX1_notRow_0 : decode cX1_notRow 0 = .ok (.aload_n 0, 1) := dk_42 (dk_at dksX1_notRow_0 0 rfl rfl)
theorem dX1_notRow_1 : decode cX1_notRow 1 = .ok (.iload_n 1, 1) := dk_27 (dk_at dksX1_notRow_0 1 rfl rfl)
theorem dX1_notRow_2 : decode cX1_notRow 2 = .ok (.invokevirtual 117, 3) := dk_182 0 117 (dk_at dksX1_notRow_0 2 rfl rfl)
theorem dX1_notRow_5 : decode cX1_notRow 5 = .ok (.ifCond .ne 5, 3) := dk_154 0 5 (dk_at dksX1_notRow_0 5 rfl rfl)
theorem dX1_notRow_8 : decode cX1_notRow 8 = .ok (.iconst (-1), 1) := dk_2 (dk_at dksX1_notRow_0 8 rfl rfl)
theorem dX1_notRow_9 : decode cX1_notRow 9 = .ok (.ireturn, 1) := dk_172 (dk_at dksX1_notRow_0 9 rfl rfl)
theorem dX1_notRow_10 : decode cX1_notRow 10 = .ok (.aload_n 0, 1) := dk_42 (dk_at dksX1_notRow_0 10 rfl rfl)
theorem dX1_notRow_11 : decode cX1_notRow 11 = .ok (.getfield 120, 3) := dk_180 0 120 (dk_at dksX1_notRow_0 11 rfl rfl)
theorem dX1_notRow_14 : decode cX1_notRow 14 = .ok (.iload_n 1, 1) := dk_27 (dk_at dksX1_notRow_0 14 rfl rfl)
theorem dX1_notRow_15 : decode cX1_notRow 15 = .ok (.aaload, 1) := dk_50 (dk_at dksX1_notRow_0 15 rfl rfl)
theorem dX1_notRow_16 : decode cX1_notRow 16 = .ok (.getfield 124, 3) := dk_180 0 124 (dk_at dksX1_notRow_0 16 rfl rfl)
theorem dX1_notRow_19 : decode cX1_notRow 19 = .ok (.astore_n 2, 1) := dk_77 (dk_at dksX1_notRow_0 19 rfl rfl)
theorem dX1_notRow_20 : decode cX1_notRow 20 = .ok (.aload_n 2, 1) := dk_44 (dk_at dksX1_notRow_0 20 rfl rfl)
theorem dX1_notRow_21 : decode cX1_notRow 21 = .ok (.ifnonnull 8, 3) := dk_199 0 8 (dk_at dksX1_notRow_0 21 rfl rfl)
theorem dX1_notRow_24 : decode cX1_notRow 24 = .ok (.bipush (-11), 2) := dk_16 245 (dk_at dksX1_notRow_1 0 rfl rfl)
theorem dX1_notRow_26 : decode cX1_notRow 26 = .ok (.goto 17, 3) := dk_167 0 17 (dk_at dksX1_notRow_1 2 rfl rfl)
theorem dX1_notRow_29 : decode cX1_notRow 29 = .ok (.aload_n 2, 1) := dk_44 (dk_at dksX1_notRow_1 5 rfl rfl)
theorem dX1_notRow_30 : decode cX1_notRow 30 = .ok (.invokestatic 243, 3) := dk_184 0 243 (dk_at dksX1_notRow_1 6 rfl rfl)
theorem dX1_notRow_33 : decode cX1_notRow 33 = .ok (.iconst (-1), 1) := dk_2 (dk_at dksX1_notRow_1 9 rfl rfl)
theorem dX1_notRow_34 : decode cX1_notRow 34 = .ok (.if_icmp .ne 8, 3) := dk_160 0 8 (dk_at dksX1_notRow_1 10 rfl rfl)
theorem dX1_notRow_37 : decode cX1_notRow 37 = .ok (.bipush (-12), 2) := dk_16 244 (dk_at dksX1_notRow_1 13 rfl rfl)
theorem dX1_notRow_39 : decode cX1_notRow 39 = .ok (.goto 4, 3) := dk_167 0 4 (dk_at dksX1_notRow_1 15 rfl rfl)
theorem dX1_notRow_42 : decode cX1_notRow 42 = .ok (.iconst 0, 1) := dk_3 (dk_at dksX1_notRow_1 18 rfl rfl)
theorem dX1_notRow_43 : decode cX1_notRow 43 = .ok (.ireturn, 1) := dk_172 (dk_at dksX1_notRow_1 19 rfl rfl)
abbrev cX1_sortOf : ByteArray := prog_1_method_43_code
def yX1_sortOf : MethodName := ⟨RX1, "sortOf", "(Ljava/lang/Object;)I"⟩
def dkwX1_sortOf_1 : List UInt8 := [193, 0, 227, 153, 0, 7, 5, 167, 0, 4, 2, 172]
abbrev dktX1_sortOf_1 : List UInt8 := dkwX1_sortOf_1 ++ []
def dkwX1_sortOf_0 : List UInt8 := [42, 193, 0, 130, 153, 0, 7, 3, 167, 0, 26, 42, 193, 0, 225, 153, 0, 7, 4, 167, 0, 15, 42]
abbrev dktX1_sortOf_0 : List UInt8 := dkwX1_sortOf_0 ++ dktX1_sortOf_1
theorem dksX1_sortOf_0 : cX1_sortOf.data.toList.drop 0 = dktX1_sortOf_0 := by decide +kernel
theorem dksX1_sortOf_1 : cX1_sortOf.data.toList.drop 23 = dktX1_sortOf_1 := dk_seg dksX1_sortOf_0 23 rfl rfl
theorem dX1_sortOf_0 : decode cX1_sortOf 0 = .ok (.aload_n 0, 1) := dk_42 (dk_at dksX1_sortOf_0 0 rfl rfl)
theorem dX1_sortOf_1 : decode cX1_sortOf 1 = .ok (.instanceof 130, 3) := dk_193 0 130 (dk_at dksX1_sortOf_0 1 rfl rfl)
theorem dX1_sortOf_4 : decode cX1_sortOf 4 = .ok (.ifCond .eq 7, 3) := dk_153 0 7 (dk_at dksX1_sortOf_0 4 rfl rfl)
theorem dX1_sortOf_7 : decode cX1_sortOf 7 = .ok (.iconst 0, 1) := dk_3 (dk_at dksX1_sortOf_0 7 rfl rfl)
theorem dX1_sortOf_8 : decode cX1_sortOf 8 = .ok (.goto 26, 3) := dk_167 0 26 (dk_at dksX1_sortOf_0 8 rfl rfl)
theorem dX1_sortOf_11 : decode cX1_sortOf 11 = .ok (.aload_n 0, 1) := dk_42 (dk_at dksX1_sortOf_0 11 rfl rfl)
theorem dX1_sortOf_12 : decode cX1_sortOf 12 = .ok (.instanceof 225, 3) := dk_193 0 225 (dk_at dksX1_sortOf_0 12 rfl rfl)
theorem dX1_sortOf_15 : decode cX1_sortOf 15 = .ok (.ifCond .eq 7, 3) := dk_153 0 7 (dk_at dksX1_sortOf_0 15 rfl rfl)
theorem dX1_sortOf_18 : decode cX1_sortOf 18 = .ok (.iconst 1, 1) := dk_4 (dk_at dksX1_sortOf_0 18 rfl rfl)
theorem dX1_sortOf_19 : decode cX1_sortOf 19 = .ok (.goto 15, 3) := dk_167 0 15 (dk_at dksX1_sortOf_0 19 rfl rfl)
theorem dX1_sortOf_22 : decode cX1_sortOf 22 = .ok (.aload_n 0, 1) := dk_42 (dk_at dksX1_sortOf_0 22 rfl rfl)
theorem dX1_sortOf_23 : decode cX1_sortOf 23 = .ok (.instanceof 227, 3) := dk_193 0 227 (dk_at dksX1_sortOf_1 0 rfl rfl)
theorem dX1_sortOf_26 : decode cX1_sortOf 26 = .ok (.ifCond .eq 7, 3) := dk_153 0 7 (dk_at dksX1_sortOf_1 3 rfl rfl)
theorem dX1_sortOf_29 : decode cX1_sortOf 29 = .ok (.iconst 2, 1) := dk_5 (dk_at dksX1_sortOf_1 6 rfl rfl)
theorem dX1_sortOf_30 : decode cX1_sortOf 30 = .ok (.goto 4, 3) := dk_167 0 4 (dk_at dksX1_sortOf_1 7 rfl rfl)
theorem dX1_sortOf_33 : decode cX1_sortOf 33 = .ok (.iconst (-1), 1) := dk_2 (dk_at dksX1_sortOf_1 10 rfl rfl)
theorem dX1_sortOf_34 : decode cX1_sortOf 34 = .ok (.ireturn, 1) := dk_172 (dk_at dksX1_sortOf_1 11 rfl rfl)
abbrev cX1_wentSo : ByteArray := prog_1_method_46_code
def yX1_wentSo : MethodName := ⟨RX1, "wentSo", "(Ljava/lang/Object;II)Z"⟩
def dkwX1_wentSo_3 : List UInt8 := [182, 0, 207, 132, 4, 1, 167, 255, 182, 4, 172]
abbrev dktX1_wentSo_3 : List UInt8 := dkwX1_wentSo_3 ++ []
def dkwX1_wentSo_2 : List UInt8 := [28, 46, 29, 160, 0, 6, 167, 0, 20, 42, 180, 0, 38, 28, 29, 182, 0, 253, 42, 180, 0, 38, 3]
abbrev dktX1_wentSo_2 : List UInt8 := dkwX1_wentSo_2 ++ dktX1_wentSo_3
def dkwX1_wentSo_1 : List UInt8 := [184, 0, 235, 42, 180, 0, 38, 180, 0, 155, 28, 46, 159, 0, 5, 3, 172, 42, 180, 0, 38, 180, 0, 155]
abbrev dktX1_wentSo_1 : List UInt8 := dkwX1_wentSo_1 ++ dktX1_wentSo_2
def dkwX1_wentSo_0 : List UInt8 := [3, 54, 4, 21, 4, 43, 184, 0, 246, 162, 0, 71, 43, 21, 4, 184, 0, 249, 154, 0, 23, 43, 21, 4]
abbrev dktX1_wentSo_0 : List UInt8 := dkwX1_wentSo_0 ++ dktX1_wentSo_1
theorem dksX1_wentSo_0 : cX1_wentSo.data.toList.drop 0 = dktX1_wentSo_0 := by decide +kernel
theorem dksX1_wentSo_1 : cX1_wentSo.data.toList.drop 24 = dktX1_wentSo_1 := dk_seg dksX1_wentSo_0 24 rfl rfl
theorem dksX1_wentSo_2 : cX1_wentSo.data.toList.drop 48 = dktX1_wentSo_2 := dk_seg dksX1_wentSo_1 24 rfl rfl
theorem dksX1_wentSo_3 : cX1_wentSo.data.toList.drop 71 = dktX1_wentSo_3 := dk_seg dksX1_wentSo_2 23 rfl rfl
theorem dX1_wentSo_0 : decode cX1_wentSo 0 = .ok (.iconst 0, 1) := dk_3 (dk_at dksX1_wentSo_0 0 rfl rfl)
theorem dX1_wentSo_1 : decode cX1_wentSo 1 = .ok (.istore 4, 2) := dk_54 4 (dk_at dksX1_wentSo_0 1 rfl rfl)
theorem dX1_wentSo_3 : decode cX1_wentSo 3 = .ok (.iload 4, 2) := dk_21 4 (dk_at dksX1_wentSo_0 3 rfl rfl)
theorem dX1_wentSo_5 : decode cX1_wentSo 5 = .ok (.aload_n 1, 1) := dk_43 (dk_at dksX1_wentSo_0 5 rfl rfl)
theorem dX1_wentSo_6 : decode cX1_wentSo 6 = .ok (.invokestatic 246, 3) := dk_184 0 246 (dk_at dksX1_wentSo_0 6 rfl rfl)
theorem dX1_wentSo_9 : decode cX1_wentSo 9 = .ok (.if_icmp .ge 71, 3) := dk_162 0 71 (dk_at dksX1_wentSo_0 9 rfl rfl)
theorem dX1_wentSo_12 : decode cX1_wentSo 12 = .ok (.aload_n 1, 1) := dk_43 (dk_at dksX1_wentSo_0 12 rfl rfl)
theorem dX1_wentSo_13 : decode cX1_wentSo 13 = .ok (.iload 4, 2) := dk_21 4 (dk_at dksX1_wentSo_0 13 rfl rfl)
theorem dX1_wentSo_15 : decode cX1_wentSo 15 = .ok (.invokestatic 249, 3) := dk_184 0 249 (dk_at dksX1_wentSo_0 15 rfl rfl)
theorem dX1_wentSo_18 : decode cX1_wentSo 18 = .ok (.ifCond .ne 23, 3) := dk_154 0 23 (dk_at dksX1_wentSo_0 18 rfl rfl)
theorem dX1_wentSo_21 : decode cX1_wentSo 21 = .ok (.aload_n 1, 1) := dk_43 (dk_at dksX1_wentSo_0 21 rfl rfl)
theorem dX1_wentSo_22 : decode cX1_wentSo 22 = .ok (.iload 4, 2) := dk_21 4 (dk_at dksX1_wentSo_0 22 rfl rfl)
theorem dX1_wentSo_24 : decode cX1_wentSo 24 = .ok (.invokestatic 235, 3) := dk_184 0 235 (dk_at dksX1_wentSo_1 0 rfl rfl)
theorem dX1_wentSo_27 : decode cX1_wentSo 27 = .ok (.aload_n 0, 1) := dk_42 (dk_at dksX1_wentSo_1 3 rfl rfl)
theorem dX1_wentSo_28 : decode cX1_wentSo 28 = .ok (.getfield 38, 3) := dk_180 0 38 (dk_at dksX1_wentSo_1 4 rfl rfl)
theorem dX1_wentSo_31 : decode cX1_wentSo 31 = .ok (.getfield 155, 3) := dk_180 0 155 (dk_at dksX1_wentSo_1 7 rfl rfl)
theorem dX1_wentSo_34 : decode cX1_wentSo 34 = .ok (.iload_n 2, 1) := dk_28 (dk_at dksX1_wentSo_1 10 rfl rfl)
theorem dX1_wentSo_35 : decode cX1_wentSo 35 = .ok (.iaload, 1) := dk_46 (dk_at dksX1_wentSo_1 11 rfl rfl)
theorem dX1_wentSo_36 : decode cX1_wentSo 36 = .ok (.if_icmp .eq 5, 3) := dk_159 0 5 (dk_at dksX1_wentSo_1 12 rfl rfl)
theorem dX1_wentSo_39 : decode cX1_wentSo 39 = .ok (.iconst 0, 1) := dk_3 (dk_at dksX1_wentSo_1 15 rfl rfl)
theorem dX1_wentSo_40 : decode cX1_wentSo 40 = .ok (.ireturn, 1) := dk_172 (dk_at dksX1_wentSo_1 16 rfl rfl)
theorem dX1_wentSo_41 : decode cX1_wentSo 41 = .ok (.aload_n 0, 1) := dk_42 (dk_at dksX1_wentSo_1 17 rfl rfl)
theorem dX1_wentSo_42 : decode cX1_wentSo 42 = .ok (.getfield 38, 3) := dk_180 0 38 (dk_at dksX1_wentSo_1 18 rfl rfl)
theorem dX1_wentSo_45 : decode cX1_wentSo 45 = .ok (.getfield 155, 3) := dk_180 0 155 (dk_at dksX1_wentSo_1 21 rfl rfl)
theorem dX1_wentSo_48 : decode cX1_wentSo 48 = .ok (.iload_n 2, 1) := dk_28 (dk_at dksX1_wentSo_2 0 rfl rfl)
theorem dX1_wentSo_49 : decode cX1_wentSo 49 = .ok (.iaload, 1) := dk_46 (dk_at dksX1_wentSo_2 1 rfl rfl)
theorem dX1_wentSo_50 : decode cX1_wentSo 50 = .ok (.iload_n 3, 1) := dk_29 (dk_at dksX1_wentSo_2 2 rfl rfl)
theorem dX1_wentSo_51 : decode cX1_wentSo 51 = .ok (.if_icmp .ne 6, 3) := dk_160 0 6 (dk_at dksX1_wentSo_2 3 rfl rfl)
theorem dX1_wentSo_54 : decode cX1_wentSo 54 = .ok (.goto 20, 3) := dk_167 0 20 (dk_at dksX1_wentSo_2 6 rfl rfl)
theorem dX1_wentSo_57 : decode cX1_wentSo 57 = .ok (.aload_n 0, 1) := dk_42 (dk_at dksX1_wentSo_2 9 rfl rfl)
theorem dX1_wentSo_58 : decode cX1_wentSo 58 = .ok (.getfield 38, 3) := dk_180 0 38 (dk_at dksX1_wentSo_2 10 rfl rfl)
theorem dX1_wentSo_61 : decode cX1_wentSo 61 = .ok (.iload_n 2, 1) := dk_28 (dk_at dksX1_wentSo_2 13 rfl rfl)
theorem dX1_wentSo_62 : decode cX1_wentSo 62 = .ok (.iload_n 3, 1) := dk_29 (dk_at dksX1_wentSo_2 14 rfl rfl)
theorem dX1_wentSo_63 : decode cX1_wentSo 63 = .ok (.invokevirtual 253, 3) := dk_182 0 253 (dk_at dksX1_wentSo_2 15 rfl rfl)
theorem dX1_wentSo_66 : decode cX1_wentSo 66 = .ok (.aload_n 0, 1) := dk_42 (dk_at dksX1_wentSo_2 18 rfl rfl)
theorem dX1_wentSo_67 : decode cX1_wentSo 67 = .ok (.getfield 38, 3) := dk_180 0 38 (dk_at dksX1_wentSo_2 19 rfl rfl)
theorem dX1_wentSo_70 : decode cX1_wentSo 70 = .ok (.iconst 0, 1) := dk_3 (dk_at dksX1_wentSo_2 22 rfl rfl)
theorem dX1_wentSo_71 : decode cX1_wentSo 71 = .ok (.invokevirtual 207, 3) := dk_182 0 207 (dk_at dksX1_wentSo_3 0 rfl rfl)
theorem dX1_wentSo_74 : decode cX1_wentSo 74 = .ok (.iinc 4 1, 3) := dk_132 4 1 (dk_at dksX1_wentSo_3 3 rfl rfl)
theorem dX1_wentSo_77 : decode cX1_wentSo 77 = .ok (.goto (-74), 3) := dk_167 255 182 (dk_at dksX1_wentSo_3 6 rfl rfl)
theorem dX1_wentSo_80 : decode cX1_wentSo 80 = .ok (.iconst 1, 1) := dk_4 (dk_at dksX1_wentSo_3 9 rfl rfl)
theorem dX1_wentSo_81 : decode cX1_wentSo 81 = .ok (.ireturn, 1) := dk_172 (dk_at dksX1_wentSo_3 10 rfl rfl)
abbrev cX1_sizeOf : ByteArray := prog_1_method_40_code
def yX1_sizeOf : MethodName := ⟨RX1, "sizeOf", "(Ljava/lang/Object;)I"⟩
def dkwX1_sizeOf_1 : List UInt8 := [192, 0, 225, 190, 167, 0, 8, 42, 192, 0, 227, 190, 172]
abbrev dktX1_sizeOf_1 : List UInt8 := dkwX1_sizeOf_1 ++ []
def dkwX1_sizeOf_0 : List UInt8 := [42, 193, 0, 130, 153, 0, 11, 42, 192, 0, 130, 190, 167, 0, 23, 42, 193, 0, 225, 153, 0, 11, 42]
abbrev dktX1_sizeOf_0 : List UInt8 := dkwX1_sizeOf_0 ++ dktX1_sizeOf_1
theorem dksX1_sizeOf_0 : cX1_sizeOf.data.toList.drop 0 = dktX1_sizeOf_0 := by decide +kernel
theorem dksX1_sizeOf_1 : cX1_sizeOf.data.toList.drop 23 = dktX1_sizeOf_1 := dk_seg dksX1_sizeOf_0 23 rfl rfl
theorem dX1_sizeOf_0 : decode cX1_sizeOf 0 = .ok (.aload_n 0, 1) := dk_42 (dk_at dksX1_sizeOf_0 0 rfl rfl)
theorem dX1_sizeOf_1 : decode cX1_sizeOf 1 = .ok (.instanceof 130, 3) := dk_193 0 130 (dk_at dksX1_sizeOf_0 1 rfl rfl)
theorem dX1_sizeOf_4 : decode cX1_sizeOf 4 = .ok (.ifCond .eq 11, 3) := dk_153 0 11 (dk_at dksX1_sizeOf_0 4 rfl rfl)
theorem dX1_sizeOf_7 : decode cX1_sizeOf 7 = .ok (.aload_n 0, 1) := dk_42 (dk_at dksX1_sizeOf_0 7 rfl rfl)
theorem dX1_sizeOf_8 : decode cX1_sizeOf 8 = .ok (.checkcast 130, 3) := dk_192 0 130 (dk_at dksX1_sizeOf_0 8 rfl rfl)
theorem dX1_sizeOf_11 : decode cX1_sizeOf 11 = .ok (.arraylength, 1) := dk_190 (dk_at dksX1_sizeOf_0 11 rfl rfl)
theorem dX1_sizeOf_12 : decode cX1_sizeOf 12 = .ok (.goto 23, 3) := dk_167 0 23 (dk_at dksX1_sizeOf_0 12 rfl rfl)
theorem dX1_sizeOf_15 : decode cX1_sizeOf 15 = .ok (.aload_n 0, 1) := dk_42 (dk_at dksX1_sizeOf_0 15 rfl rfl)
theorem dX1_sizeOf_16 : decode cX1_sizeOf 16 = .ok (.instanceof 225, 3) := dk_193 0 225 (dk_at dksX1_sizeOf_0 16 rfl rfl)
theorem dX1_sizeOf_19 : decode cX1_sizeOf 19 = .ok (.ifCond .eq 11, 3) := dk_153 0 11 (dk_at dksX1_sizeOf_0 19 rfl rfl)
theorem dX1_sizeOf_22 : decode cX1_sizeOf 22 = .ok (.aload_n 0, 1) := dk_42 (dk_at dksX1_sizeOf_0 22 rfl rfl)
theorem dX1_sizeOf_23 : decode cX1_sizeOf 23 = .ok (.checkcast 225, 3) := dk_192 0 225 (dk_at dksX1_sizeOf_1 0 rfl rfl)
theorem dX1_sizeOf_26 : decode cX1_sizeOf 26 = .ok (.arraylength, 1) := dk_190 (dk_at dksX1_sizeOf_1 3 rfl rfl)
theorem dX1_sizeOf_27 : decode cX1_sizeOf 27 = .ok (.goto 8, 3) := dk_167 0 8 (dk_at dksX1_sizeOf_1 4 rfl rfl)
theorem dX1_sizeOf_30 : decode cX1_sizeOf 30 = .ok (.aload_n 0, 1) := dk_42 (dk_at dksX1_sizeOf_1 7 rfl rfl)
theorem dX1_sizeOf_31 : decode cX1_sizeOf 31 = .ok (.checkcast 227, 3) := dk_192 0 227 (dk_at dksX1_sizeOf_1 8 rfl rfl)
theorem dX1_sizeOf_34 : decode cX1_sizeOf 34 = .ok (.arraylength, 1) := dk_190 (dk_at dksX1_sizeOf_1 11 rfl rfl)
theorem dX1_sizeOf_35 : decode cX1_sizeOf 35 = .ok (.ireturn, 1) := dk_172 (dk_at dksX1_sizeOf_1 12 rfl rfl)
abbrev cX1_isSkipped : ByteArray := prog_1_method_44_code
def yX1_isSkipped : MethodName := ⟨RX1, "isSkipped", "(Ljava/lang/Object;I)Z"⟩
def dkwX1_isSkipped_0 : List UInt8 := [42, 27, 184, 0, 235, 42, 184, 0, 239, 160, 0, 7, 4, 167, 0, 4, 3, 172]
abbrev dktX1_isSkipped_0 : List UInt8 := dkwX1_isSkipped_0 ++ []
theorem dksX1_isSkipped_0 : cX1_isSkipped.data.toList.drop 0 = dktX1_isSkipped_0 := by decide +kernel
theorem dX1_isSkipped_0 : decode cX1_isSkipped 0 = .ok (.aload_n 0, 1) := dk_42 (dk_at dksX1_isSkipped_0 0 rfl rfl)
theorem dX1_isSkipped_1 : decode cX1_isSkipped 1 = .ok (.iload_n 1, 1) := dk_27 (dk_at dksX1_isSkipped_0 1 rfl rfl)
theorem dX1_isSkipped_2 : decode cX1_isSkipped 2 = .ok (.invokestatic 235, 3) := dk_184 0 235 (dk_at dksX1_isSkipped_0 2 rfl rfl)
theorem dX1_isSkipped_5 : decode cX1_isSkipped 5 = .ok (.aload_n 0, 1) := dk_42 (dk_at dksX1_isSkipped_0 5 rfl rfl)
theorem dX1_isSkipped_6 : decode cX1_isSkipped 6 = .ok (.invokestatic 239, 3) := dk_184 0 239 (dk_at dksX1_isSkipped_0 6 rfl rfl)
theorem dX1_isSkipped_9 : decode cX1_isSkipped 9 = .ok (.if_icmp .ne 7, 3) := dk_160 0 7 (dk_at dksX1_isSkipped_0 9 rfl rfl)
theorem dX1_isSkipped_12 : decode cX1_isSkipped 12 = .ok (.iconst 1, 1) := dk_4 (dk_at dksX1_isSkipped_0 12 rfl rfl)
theorem dX1_isSkipped_13 : decode cX1_isSkipped 13 = .ok (.goto 4, 3) := dk_167 0 4 (dk_at dksX1_isSkipped_0 13 rfl rfl)
theorem dX1_isSkipped_16 : decode cX1_isSkipped 16 = .ok (.iconst 0, 1) := dk_3 (dk_at dksX1_isSkipped_0 16 rfl rfl)
theorem dX1_isSkipped_17 : decode cX1_isSkipped 17 = .ok (.ireturn, 1) := dk_172 (dk_at dksX1_isSkipped_0 17 rfl rfl)
abbrev cX1_elementOf : ByteArray := prog_1_method_41_code
def yX1_elementOf : MethodName := ⟨RX1, "elementOf", "(Ljava/lang/Object;I)I"⟩
def dkwX1_elementOf_1 : List UInt8 := [192, 0, 225, 27, 53, 167, 0, 9, 42, 192, 0, 227, 27, 46, 172]
abbrev dktX1_elementOf_1 : List UInt8 := dkwX1_elementOf_1 ++ []
def dkwX1_elementOf_0 : List UInt8 := [42, 193, 0, 130, 153, 0, 12, 42, 192, 0, 130, 27, 51, 167, 0, 25, 42, 193, 0, 225, 153, 0, 12, 42]
abbrev dktX1_elementOf_0 : List UInt8 := dkwX1_elementOf_0 ++ dktX1_elementOf_1
theorem dksX1_elementOf_0 : cX1_elementOf.data.toList.drop 0 = dktX1_elementOf_0 := by decide +kernel
theorem dksX1_elementOf_1 : cX1_elementOf.data.toList.drop 24 = dktX1_elementOf_1 := dk_seg dksX1_elementOf_0 24 rfl rfl
theorem dX1_elementOf_0 : decode cX1_elementOf 0 = .ok (.aload_n 0, 1) := dk_42 (dk_at dksX1_elementOf_0 0 rfl rfl)
theorem dX1_elementOf_1 : decode cX1_elementOf 1 = .ok (.instanceof 130, 3) := dk_193 0 130 (dk_at dksX1_elementOf_0 1 rfl rfl)
theorem dX1_elementOf_4 : decode cX1_elementOf 4 = .ok (.ifCond .eq 12, 3) := dk_153 0 12 (dk_at dksX1_elementOf_0 4 rfl rfl)
theorem dX1_elementOf_7 : decode cX1_elementOf 7 = .ok (.aload_n 0, 1) := dk_42 (dk_at dksX1_elementOf_0 7 rfl rfl)
theorem dX1_elementOf_8 : decode cX1_elementOf 8 = .ok (.checkcast 130, 3) := dk_192 0 130 (dk_at dksX1_elementOf_0 8 rfl rfl)
theorem dX1_elementOf_11 : decode cX1_elementOf 11 = .ok (.iload_n 1, 1) := dk_27 (dk_at dksX1_elementOf_0 11 rfl rfl)
theorem dX1_elementOf_12 : decode cX1_elementOf 12 = .ok (.baload, 1) := dk_51 (dk_at dksX1_elementOf_0 12 rfl rfl)
theorem dX1_elementOf_13 : decode cX1_elementOf 13 = .ok (.goto 25, 3) := dk_167 0 25 (dk_at dksX1_elementOf_0 13 rfl rfl)
theorem dX1_elementOf_16 : decode cX1_elementOf 16 = .ok (.aload_n 0, 1) := dk_42 (dk_at dksX1_elementOf_0 16 rfl rfl)
theorem dX1_elementOf_17 : decode cX1_elementOf 17 = .ok (.instanceof 225, 3) := dk_193 0 225 (dk_at dksX1_elementOf_0 17 rfl rfl)
theorem dX1_elementOf_20 : decode cX1_elementOf 20 = .ok (.ifCond .eq 12, 3) := dk_153 0 12 (dk_at dksX1_elementOf_0 20 rfl rfl)
theorem dX1_elementOf_23 : decode cX1_elementOf 23 = .ok (.aload_n 0, 1) := dk_42 (dk_at dksX1_elementOf_0 23 rfl rfl)
theorem dX1_elementOf_24 : decode cX1_elementOf 24 = .ok (.checkcast 225, 3) := dk_192 0 225 (dk_at dksX1_elementOf_1 0 rfl rfl)
theorem dX1_elementOf_27 : decode cX1_elementOf 27 = .ok (.iload_n 1, 1) := dk_27 (dk_at dksX1_elementOf_1 3 rfl rfl)
theorem dX1_elementOf_28 : decode cX1_elementOf 28 = .ok (.saload, 1) := dk_53 (dk_at dksX1_elementOf_1 4 rfl rfl)
theorem dX1_elementOf_29 : decode cX1_elementOf 29 = .ok (.goto 9, 3) := dk_167 0 9 (dk_at dksX1_elementOf_1 5 rfl rfl)
theorem dX1_elementOf_32 : decode cX1_elementOf 32 = .ok (.aload_n 0, 1) := dk_42 (dk_at dksX1_elementOf_1 8 rfl rfl)
theorem dX1_elementOf_33 : decode cX1_elementOf 33 = .ok (.checkcast 227, 3) := dk_192 0 227 (dk_at dksX1_elementOf_1 9 rfl rfl)
theorem dX1_elementOf_36 : decode cX1_elementOf 36 = .ok (.iload_n 1, 1) := dk_27 (dk_at dksX1_elementOf_1 12 rfl rfl)
theorem dX1_elementOf_37 : decode cX1_elementOf 37 = .ok (.iaload, 1) := dk_46 (dk_at dksX1_elementOf_1 13 rfl rfl)
theorem dX1_elementOf_38 : decode cX1_elementOf 38 = .ok (.ireturn, 1) := dk_172 (dk_at dksX1_elementOf_1 14 rfl rfl)
abbrev cX1_leastElement : ByteArray := prog_1_method_42_code
def yX1_leastElement : MethodName := ⟨RX1, "leastElement", "(Ljava/lang/Object;)I"⟩
def dkwX1_leastElement_1 : List UInt8 := [167, 0, 5, 18, 234, 172]
abbrev dktX1_leastElement_1 : List UInt8 := dkwX1_leastElement_1 ++ []
def dkwX1_leastElement_0 : List UInt8 := [42, 193, 0, 130, 153, 0, 8, 16, 128, 167, 0, 18, 42, 193, 0, 225, 153, 0, 9, 17, 128, 0]
abbrev dktX1_leastElement_0 : List UInt8 := dkwX1_leastElement_0 ++ dktX1_leastElement_1
theorem dksX1_leastElement_0 : cX1_leastElement.data.toList.drop 0 = dktX1_leastElement_0 := by decide +kernel
theorem dksX1_leastElement_1 : cX1_leastElement.data.toList.drop 22 = dktX1_leastElement_1 := dk_seg dksX1_leastElement_0 22 rfl rfl
theorem dX1_leastElement_0 : decode cX1_leastElement 0 = .ok (.aload_n 0, 1) := dk_42 (dk_at dksX1_leastElement_0 0 rfl rfl)
theorem dX1_leastElement_1 : decode cX1_leastElement 1 = .ok (.instanceof 130, 3) := dk_193 0 130 (dk_at dksX1_leastElement_0 1 rfl rfl)
theorem dX1_leastElement_4 : decode cX1_leastElement 4 = .ok (.ifCond .eq 8, 3) := dk_153 0 8 (dk_at dksX1_leastElement_0 4 rfl rfl)
theorem dX1_leastElement_7 : decode cX1_leastElement 7 = .ok (.bipush (-128), 2) := dk_16 128 (dk_at dksX1_leastElement_0 7 rfl rfl)
theorem dX1_leastElement_9 : decode cX1_leastElement 9 = .ok (.goto 18, 3) := dk_167 0 18 (dk_at dksX1_leastElement_0 9 rfl rfl)
theorem dX1_leastElement_12 : decode cX1_leastElement 12 = .ok (.aload_n 0, 1) := dk_42 (dk_at dksX1_leastElement_0 12 rfl rfl)
theorem dX1_leastElement_13 : decode cX1_leastElement 13 = .ok (.instanceof 225, 3) := dk_193 0 225 (dk_at dksX1_leastElement_0 13 rfl rfl)
theorem dX1_leastElement_16 : decode cX1_leastElement 16 = .ok (.ifCond .eq 9, 3) := dk_153 0 9 (dk_at dksX1_leastElement_0 16 rfl rfl)
theorem dX1_leastElement_19 : decode cX1_leastElement 19 = .ok (.sipush (-32768), 3) := dk_17 128 0 (dk_at dksX1_leastElement_0 19 rfl rfl)
theorem dX1_leastElement_22 : decode cX1_leastElement 22 = .ok (.goto 5, 3) := dk_167 0 5 (dk_at dksX1_leastElement_1 0 rfl rfl)
theorem dX1_leastElement_25 : decode cX1_leastElement 25 = .ok (.ldc 234, 2) := dk_18 234 (dk_at dksX1_leastElement_1 3 rfl rfl)
theorem dX1_leastElement_27 : decode cX1_leastElement 27 = .ok (.ireturn, 1) := dk_172 (dk_at dksX1_leastElement_1 5 rfl rfl)
abbrev cX1_whatIs : ByteArray := prog_1_method_48_code
def yX1_whatIs : MethodName := ⟨RX1, "whatIs", "(IIII)I"⟩
def dkwX1_whatIs_6 : List UInt8 := [153, 0, 10, 4, 21, 8, 120, 167, 0, 4, 3, 128, 54, 7, 132, 8, 1, 167, 255, 164, 21, 7, 172]
abbrev dktX1_whatIs_6 : List UInt8 := dkwX1_whatIs_6 ++ []
def dkwX1_whatIs_5 : List UInt8 := [21, 8, 184, 0, 48, 83, 21, 7, 42, 42, 180, 0, 120, 27, 50, 180, 0, 124, 28, 29, 182, 1, 4]
abbrev dktX1_whatIs_5 : List UInt8 := dkwX1_whatIs_5 ++ dktX1_whatIs_6
def dkwX1_whatIs_4 : List UInt8 := [28, 21, 4, 154, 0, 16, 21, 8, 25, 6, 180, 0, 149, 184, 0, 48, 167, 0, 13, 25, 6, 182, 0, 145]
abbrev dktX1_whatIs_4 : List UInt8 := dkwX1_whatIs_4 ++ dktX1_whatIs_5
def dkwX1_whatIs_3 : List UInt8 := [154, 0, 8, 16, 8, 167, 0, 5, 16, 10, 162, 0, 81, 42, 182, 0, 167, 42, 180, 0, 38, 180, 0, 141]
abbrev dktX1_whatIs_3 : List UInt8 := dkwX1_whatIs_3 ++ dktX1_whatIs_4
def dkwX1_whatIs_2 : List UInt8 := [172, 42, 180, 0, 101, 180, 0, 141, 28, 50, 58, 6, 3, 54, 7, 3, 54, 8, 21, 8, 21, 4]
abbrev dktX1_whatIs_2 : List UInt8 := dkwX1_whatIs_2 ++ dktX1_whatIs_3
def dkwX1_whatIs_1 : List UInt8 := [184, 0, 30, 153, 0, 11, 42, 27, 182, 1, 1, 167, 0, 4, 2, 54, 5, 21, 5, 153, 0, 6, 21, 5]
abbrev dktX1_whatIs_1 : List UInt8 := dkwX1_whatIs_1 ++ dktX1_whatIs_2
def dkwX1_whatIs_0 : List UInt8 := [42, 180, 0, 101, 28, 182, 0, 69, 153, 0, 28, 29, 184, 0, 34, 153, 0, 21, 21, 4, 3, 4]
abbrev dktX1_whatIs_0 : List UInt8 := dkwX1_whatIs_0 ++ dktX1_whatIs_1
theorem dksX1_whatIs_0 : cX1_whatIs.data.toList.drop 0 = dktX1_whatIs_0 := by decide +kernel
theorem dksX1_whatIs_1 : cX1_whatIs.data.toList.drop 22 = dktX1_whatIs_1 := dk_seg dksX1_whatIs_0 22 rfl rfl
theorem dksX1_whatIs_2 : cX1_whatIs.data.toList.drop 46 = dktX1_whatIs_2 := dk_seg dksX1_whatIs_1 24 rfl rfl
theorem dksX1_whatIs_3 : cX1_whatIs.data.toList.drop 68 = dktX1_whatIs_3 := dk_seg dksX1_whatIs_2 22 rfl rfl
theorem dksX1_whatIs_4 : cX1_whatIs.data.toList.drop 92 = dktX1_whatIs_4 := dk_seg dksX1_whatIs_3 24 rfl rfl
theorem dksX1_whatIs_5 : cX1_whatIs.data.toList.drop 116 = dktX1_whatIs_5 := dk_seg dksX1_whatIs_4 24 rfl rfl
theorem dksX1_whatIs_6 : cX1_whatIs.data.toList.drop 139 = dktX1_whatIs_6 := dk_seg dksX1_whatIs_5 23 rfl rfl
theorem dX1_whatIs_0 : decode cX1_whatIs 0 = .ok (.aload_n 0, 1) := dk_42 (dk_at dksX1_whatIs_0 0 rfl rfl)
theorem dX1_whatIs_1 : decode cX1_whatIs 1 = .ok (.getfield 101, 3) := dk_180 0 101 (dk_at dksX1_whatIs_0 1 rfl rfl)
theorem dX1_whatIs_4 : decode cX1_whatIs 4 = .ok (.iload_n 2, 1) := dk_28 (dk_at dksX1_whatIs_0 4 rfl rfl)
theorem dX1_whatIs_5 : decode cX1_whatIs 5 = .ok (.invokevirtual 69, 3) := dk_182 0 69 (dk_at dksX1_whatIs_0 5 rfl rfl)
theorem dX1_whatIs_8 : decode cX1_whatIs 8 = .ok (.ifCond .eq 28, 3) := dk_153 0 28 (dk_at dksX1_whatIs_0 8 rfl rfl)
theorem dX1_whatIs_11 : decode cX1_whatIs 11 = .ok (.iload_n 3, 1) := dk_29 (dk_at dksX1_whatIs_0 11 rfl rfl)
theorem dX1_whatIs_12 : decode cX1_whatIs 12 = .ok (.invokestatic 34, 3) := dk_184 0 34 (dk_at dksX1_whatIs_0 12 rfl rfl)
theorem dX1_whatIs_15 : decode cX1_whatIs 15 = .ok (.ifCond .eq 21, 3) := dk_153 0 21 (dk_at dksX1_whatIs_0 15 rfl rfl)
theorem dX1_whatIs_18 : decode cX1_whatIs 18 = .ok (.iload 4, 2) := dk_21 4 (dk_at dksX1_whatIs_0 18 rfl rfl)
theorem dX1_whatIs_20 : decode cX1_whatIs 20 = .ok (.iconst 0, 1) := dk_3 (dk_at dksX1_whatIs_0 20 rfl rfl)
theorem dX1_whatIs_21 : decode cX1_whatIs 21 = .ok (.iconst 1, 1) := dk_4 (dk_at dksX1_whatIs_0 21 rfl rfl)
theorem dX1_whatIs_22 : decode cX1_whatIs 22 = .ok (.invokestatic 30, 3) := dk_184 0 30 (dk_at dksX1_whatIs_1 0 rfl rfl)
theorem dX1_whatIs_25 : decode cX1_whatIs 25 = .ok (.ifCond .eq 11, 3) := dk_153 0 11 (dk_at dksX1_whatIs_1 3 rfl rfl)
theorem dX1_whatIs_28 : decode cX1_whatIs 28 = .ok (.aload_n 0, 1) := dk_42 (dk_at dksX1_whatIs_1 6 rfl rfl)
theorem dX1_whatIs_29 : decode cX1_whatIs 29 = .ok (.iload_n 1, 1) := dk_27 (dk_at dksX1_whatIs_1 7 rfl rfl)
theorem dX1_whatIs_30 : decode cX1_whatIs 30 = .ok (.invokevirtual 257, 3) := dk_182 1 1 (dk_at dksX1_whatIs_1 8 rfl rfl)
theorem dX1_whatIs_33 : decode cX1_whatIs 33 = .ok (.goto 4, 3) := dk_167 0 4 (dk_at dksX1_whatIs_1 11 rfl rfl)
theorem dX1_whatIs_36 : decode cX1_whatIs 36 = .ok (.iconst (-1), 1) := dk_2 (dk_at dksX1_whatIs_1 14 rfl rfl)
theorem dX1_whatIs_37 : decode cX1_whatIs 37 = .ok (.istore 5, 2) := dk_54 5 (dk_at dksX1_whatIs_1 15 rfl rfl)
theorem dX1_whatIs_39 : decode cX1_whatIs 39 = .ok (.iload 5, 2) := dk_21 5 (dk_at dksX1_whatIs_1 17 rfl rfl)
theorem dX1_whatIs_41 : decode cX1_whatIs 41 = .ok (.ifCond .eq 6, 3) := dk_153 0 6 (dk_at dksX1_whatIs_1 19 rfl rfl)
theorem dX1_whatIs_44 : decode cX1_whatIs 44 = .ok (.iload 5, 2) := dk_21 5 (dk_at dksX1_whatIs_1 22 rfl rfl)
theorem dX1_whatIs_46 : decode cX1_whatIs 46 = .ok (.ireturn, 1) := dk_172 (dk_at dksX1_whatIs_2 0 rfl rfl)
theorem dX1_whatIs_47 : decode cX1_whatIs 47 = .ok (.aload_n 0, 1) := dk_42 (dk_at dksX1_whatIs_2 1 rfl rfl)
theorem dX1_whatIs_48 : decode cX1_whatIs 48 = .ok (.getfield 101, 3) := dk_180 0 101 (dk_at dksX1_whatIs_2 2 rfl rfl)
theorem dX1_whatIs_51 : decode cX1_whatIs 51 = .ok (.getfield 141, 3) := dk_180 0 141 (dk_at dksX1_whatIs_2 5 rfl rfl)
theorem dX1_whatIs_54 : decode cX1_whatIs 54 = .ok (.iload_n 2, 1) := dk_28 (dk_at dksX1_whatIs_2 8 rfl rfl)
theorem dX1_whatIs_55 : decode cX1_whatIs 55 = .ok (.aaload, 1) := dk_50 (dk_at dksX1_whatIs_2 9 rfl rfl)
theorem dX1_whatIs_56 : decode cX1_whatIs 56 = .ok (.astore 6, 2) := dk_58 6 (dk_at dksX1_whatIs_2 10 rfl rfl)
theorem dX1_whatIs_58 : decode cX1_whatIs 58 = .ok (.iconst 0, 1) := dk_3 (dk_at dksX1_whatIs_2 12 rfl rfl)
theorem dX1_whatIs_59 : decode cX1_whatIs 59 = .ok (.istore 7, 2) := dk_54 7 (dk_at dksX1_whatIs_2 13 rfl rfl)
theorem dX1_whatIs_61 : decode cX1_whatIs 61 = .ok (.iconst 0, 1) := dk_3 (dk_at dksX1_whatIs_2 15 rfl rfl)
theorem dX1_whatIs_62 : decode cX1_whatIs 62 = .ok (.istore 8, 2) := dk_54 8 (dk_at dksX1_whatIs_2 16 rfl rfl)
theorem dX1_whatIs_64 : decode cX1_whatIs 64 = .ok (.iload 8, 2) := dk_21 8 (dk_at dksX1_whatIs_2 18 rfl rfl)
theorem dX1_whatIs_66 : decode cX1_whatIs 66 = .ok (.iload 4, 2) := dk_21 4 (dk_at dksX1_whatIs_2 20 rfl rfl)
theorem dX1_whatIs_68 : decode cX1_whatIs 68 = .ok (.ifCond .ne 8, 3) := dk_154 0 8 (dk_at dksX1_whatIs_3 0 rfl rfl)
theorem dX1_whatIs_71 : decode cX1_whatIs 71 = .ok (.bipush 8, 2) := dk_16 8 (dk_at dksX1_whatIs_3 3 rfl rfl)
theorem dX1_whatIs_73 : decode cX1_whatIs 73 = .ok (.goto 5, 3) := dk_167 0 5 (dk_at dksX1_whatIs_3 5 rfl rfl)
theorem dX1_whatIs_76 : decode cX1_whatIs 76 = .ok (.bipush 10, 2) := dk_16 10 (dk_at dksX1_whatIs_3 8 rfl rfl)
theorem dX1_whatIs_78 : decode cX1_whatIs 78 = .ok (.if_icmp .ge 81, 3) := dk_162 0 81 (dk_at dksX1_whatIs_3 10 rfl rfl)
theorem dX1_whatIs_81 : decode cX1_whatIs 81 = .ok (.aload_n 0, 1) := dk_42 (dk_at dksX1_whatIs_3 13 rfl rfl)
theorem dX1_whatIs_82 : decode cX1_whatIs 82 = .ok (.invokevirtual 167, 3) := dk_182 0 167 (dk_at dksX1_whatIs_3 14 rfl rfl)
theorem dX1_whatIs_85 : decode cX1_whatIs 85 = .ok (.aload_n 0, 1) := dk_42 (dk_at dksX1_whatIs_3 17 rfl rfl)
theorem dX1_whatIs_86 : decode cX1_whatIs 86 = .ok (.getfield 38, 3) := dk_180 0 38 (dk_at dksX1_whatIs_3 18 rfl rfl)
theorem dX1_whatIs_89 : decode cX1_whatIs 89 = .ok (.getfield 141, 3) := dk_180 0 141 (dk_at dksX1_whatIs_3 21 rfl rfl)
theorem dX1_whatIs_92 : decode cX1_whatIs 92 = .ok (.iload_n 2, 1) := dk_28 (dk_at dksX1_whatIs_4 0 rfl rfl)
theorem dX1_whatIs_93 : decode cX1_whatIs 93 = .ok (.iload 4, 2) := dk_21 4 (dk_at dksX1_whatIs_4 1 rfl rfl)
theorem dX1_whatIs_95 : decode cX1_whatIs 95 = .ok (.ifCond .ne 16, 3) := dk_154 0 16 (dk_at dksX1_whatIs_4 3 rfl rfl)
theorem dX1_whatIs_98 : decode cX1_whatIs 98 = .ok (.iload 8, 2) := dk_21 8 (dk_at dksX1_whatIs_4 6 rfl rfl)
theorem dX1_whatIs_100 : decode cX1_whatIs 100 = .ok (.aload 6, 2) := dk_25 6 (dk_at dksX1_whatIs_4 8 rfl rfl)
theorem dX1_whatIs_102 : decode cX1_whatIs 102 = .ok (.getfield 149, 3) := dk_180 0 149 (dk_at dksX1_whatIs_4 10 rfl rfl)
theorem dX1_whatIs_105 : decode cX1_whatIs 105 = .ok (.invokestatic 48, 3) := dk_184 0 48 (dk_at dksX1_whatIs_4 13 rfl rfl)
theorem dX1_whatIs_108 : decode cX1_whatIs 108 = .ok (.goto 13, 3) := dk_167 0 13 (dk_at dksX1_whatIs_4 16 rfl rfl)
theorem dX1_whatIs_111 : decode cX1_whatIs 111 = .ok (.aload 6, 2) := dk_25 6 (dk_at dksX1_whatIs_4 19 rfl rfl)
theorem dX1_whatIs_113 : decode cX1_whatIs 113 = .ok (.invokevirtual 145, 3) := dk_182 0 145 (dk_at dksX1_whatIs_4 21 rfl rfl)
theorem dX1_whatIs_116 : decode cX1_whatIs 116 = .ok (.iload 8, 2) := dk_21 8 (dk_at dksX1_whatIs_5 0 rfl rfl)
theorem dX1_whatIs_118 : decode cX1_whatIs 118 = .ok (.invokestatic 48, 3) := dk_184 0 48 (dk_at dksX1_whatIs_5 2 rfl rfl)
theorem dX1_whatIs_121 : decode cX1_whatIs 121 = .ok (.aastore, 1) := dk_83 (dk_at dksX1_whatIs_5 5 rfl rfl)
theorem dX1_whatIs_122 : decode cX1_whatIs 122 = .ok (.iload 7, 2) := dk_21 7 (dk_at dksX1_whatIs_5 6 rfl rfl)
theorem dX1_whatIs_124 : decode cX1_whatIs 124 = .ok (.aload_n 0, 1) := dk_42 (dk_at dksX1_whatIs_5 8 rfl rfl)
theorem dX1_whatIs_125 : decode cX1_whatIs 125 = .ok (.aload_n 0, 1) := dk_42 (dk_at dksX1_whatIs_5 9 rfl rfl)
theorem dX1_whatIs_126 : decode cX1_whatIs 126 = .ok (.getfield 120, 3) := dk_180 0 120 (dk_at dksX1_whatIs_5 10 rfl rfl)
theorem dX1_whatIs_129 : decode cX1_whatIs 129 = .ok (.iload_n 1, 1) := dk_27 (dk_at dksX1_whatIs_5 13 rfl rfl)
theorem dX1_whatIs_130 : decode cX1_whatIs 130 = .ok (.aaload, 1) := dk_50 (dk_at dksX1_whatIs_5 14 rfl rfl)
theorem dX1_whatIs_131 : decode cX1_whatIs 131 = .ok (.getfield 124, 3) := dk_180 0 124 (dk_at dksX1_whatIs_5 15 rfl rfl)
theorem dX1_whatIs_134 : decode cX1_whatIs 134 = .ok (.iload_n 2, 1) := dk_28 (dk_at dksX1_whatIs_5 18 rfl rfl)
theorem dX1_whatIs_135 : decode cX1_whatIs 135 = .ok (.iload_n 3, 1) := dk_29 (dk_at dksX1_whatIs_5 19 rfl rfl)
theorem dX1_whatIs_136 : decode cX1_whatIs 136 = .ok (.invokevirtual 260, 3) := dk_182 1 4 (dk_at dksX1_whatIs_5 20 rfl rfl)
theorem dX1_whatIs_139 : decode cX1_whatIs 139 = .ok (.ifCond .eq 10, 3) := dk_153 0 10 (dk_at dksX1_whatIs_6 0 rfl rfl)
theorem dX1_whatIs_142 : decode cX1_whatIs 142 = .ok (.iconst 1, 1) := dk_4 (dk_at dksX1_whatIs_6 3 rfl rfl)
theorem dX1_whatIs_143 : decode cX1_whatIs 143 = .ok (.iload 8, 2) := dk_21 8 (dk_at dksX1_whatIs_6 4 rfl rfl)
theorem dX1_whatIs_145 : decode cX1_whatIs 145 = .ok (.ishl, 1) := dk_120 (dk_at dksX1_whatIs_6 6 rfl rfl)
theorem dX1_whatIs_146 : decode cX1_whatIs 146 = .ok (.goto 4, 3) := dk_167 0 4 (dk_at dksX1_whatIs_6 7 rfl rfl)
theorem dX1_whatIs_149 : decode cX1_whatIs 149 = .ok (.iconst 0, 1) := dk_3 (dk_at dksX1_whatIs_6 10 rfl rfl)
theorem dX1_whatIs_150 : decode cX1_whatIs 150 = .ok (.ior, 1) := dk_128 (dk_at dksX1_whatIs_6 11 rfl rfl)
theorem dX1_whatIs_151 : decode cX1_whatIs 151 = .ok (.istore 7, 2) := dk_54 7 (dk_at dksX1_whatIs_6 12 rfl rfl)
theorem dX1_whatIs_153 : decode cX1_whatIs 153 = .ok (.iinc 8 1, 3) := dk_132 8 1 (dk_at dksX1_whatIs_6 14 rfl rfl)
theorem dX1_whatIs_156 : decode cX1_whatIs 156 = .ok (.goto (-92), 3) := dk_167 255 164 (dk_at dksX1_whatIs_6 17 rfl rfl)
theorem dX1_whatIs_159 : decode cX1_whatIs 159 = .ok (.iload 7, 2) := dk_21 7 (dk_at dksX1_whatIs_6 20 rfl rfl)
theorem dX1_whatIs_161 : decode cX1_whatIs 161 = .ok (.ireturn, 1) := dk_172 (dk_at dksX1_whatIs_6 22 rfl rfl)
abbrev cX1_two : ByteArray := prog_1_method_51_code
def yX1_two : MethodName := ⟨RX1, "two", "(III)I"⟩
def dkwX1_two_5 : List UInt8 := [96, 172, 132, 4, 1, 167, 255, 172, 16, 252, 172]
abbrev dktX1_two_5 : List UInt8 := dkwX1_two_5 ++ []
def dkwX1_two_4 : List UInt8 := [182, 1, 14, 42, 28, 21, 6, 27, 21, 5, 29, 182, 1, 14, 163, 0, 12, 16, 10, 21, 5, 104, 21, 6]
abbrev dktX1_two_4 : List UInt8 := dkwX1_two_4 ++ dktX1_two_5
def dkwX1_two_3 : List UInt8 := [21, 5, 28, 21, 6, 29, 182, 1, 14, 163, 0, 39, 42, 28, 4, 21, 6, 100, 27, 21, 5, 29]
abbrev dktX1_two_3 : List UInt8 := dkwX1_two_3 ++ dktX1_two_4
def dkwX1_two_2 : List UInt8 := [108, 54, 5, 21, 4, 5, 112, 54, 6, 42, 27, 4, 21, 5, 100, 28, 21, 6, 29, 182, 1, 14, 42, 27]
abbrev dktX1_two_2 : List UInt8 := dkwX1_two_2 ++ dktX1_two_3
def dkwX1_two_1 : List UInt8 := [159, 0, 10, 29, 184, 0, 34, 154, 0, 5, 2, 172, 3, 54, 4, 21, 4, 7, 162, 0, 84, 21, 4, 5]
abbrev dktX1_two_1 : List UInt8 := dkwX1_two_1 ++ dktX1_two_2
def dkwX1_two_0 : List UInt8 := [42, 180, 0, 101, 27, 182, 0, 69, 153, 0, 26, 42, 180, 0, 101, 28, 182, 0, 69, 153, 0, 15, 27, 28]
abbrev dktX1_two_0 : List UInt8 := dkwX1_two_0 ++ dktX1_two_1
theorem dksX1_two_0 : cX1_two.data.toList.drop 0 = dktX1_two_0 := by decide +kernel
theorem dksX1_two_1 : cX1_two.data.toList.drop 24 = dktX1_two_1 := dk_seg dksX1_two_0 24 rfl rfl
theorem dksX1_two_2 : cX1_two.data.toList.drop 48 = dktX1_two_2 := dk_seg dksX1_two_1 24 rfl rfl
theorem dksX1_two_3 : cX1_two.data.toList.drop 72 = dktX1_two_3 := dk_seg dksX1_two_2 24 rfl rfl
theorem dksX1_two_4 : cX1_two.data.toList.drop 94 = dktX1_two_4 := dk_seg dksX1_two_3 22 rfl rfl
theorem dksX1_two_5 : cX1_two.data.toList.drop 118 = dktX1_two_5 := dk_seg dksX1_two_4 24 rfl rfl
theorem dX1_two_0 : decode cX1_two 0 = .ok (.aload_n 0, 1) := dk_42 (dk_at dksX1_two_0 0 rfl rfl)
theorem dX1_two_1 : decode cX1_two 1 = .ok (.getfield 101, 3) := dk_180 0 101 (dk_at dksX1_two_0 1 rfl rfl)
theorem dX1_two_4 : decode cX1_two 4 = .ok (.iload_n 1, 1) := dk_27 (dk_at dksX1_two_0 4 rfl rfl)
theorem dX1_two_5 : decode cX1_two 5 = .ok (.invokevirtual 69, 3) := dk_182 0 69 (dk_at dksX1_two_0 5 rfl rfl)
theorem dX1_two_8 : decode cX1_two 8 = .ok (.ifCond .eq 26, 3) := dk_153 0 26 (dk_at dksX1_two_0 8 rfl rfl)
theorem dX1_two_11 : decode cX1_two 11 = .ok (.aload_n 0, 1) := dk_42 (dk_at dksX1_two_0 11 rfl rfl)
theorem dX1_two_12 : decode cX1_two 12 = .ok (.getfield 101, 3) := dk_180 0 101 (dk_at dksX1_two_0 12 rfl rfl)
theorem dX1_two_15 : decode cX1_two 15 = .ok (.iload_n 2, 1) := dk_28 (dk_at dksX1_two_0 15 rfl rfl)
theorem dX1_two_16 : decode cX1_two 16 = .ok (.invokevirtual 69, 3) := dk_182 0 69 (dk_at dksX1_two_0 16 rfl rfl)
theorem dX1_two_19 : decode cX1_two 19 = .ok (.ifCond .eq 15, 3) := dk_153 0 15 (dk_at dksX1_two_0 19 rfl rfl)
theorem dX1_two_22 : decode cX1_two 22 = .ok (.iload_n 1, 1) := dk_27 (dk_at dksX1_two_0 22 rfl rfl)
theorem dX1_two_23 : decode cX1_two 23 = .ok (.iload_n 2, 1) := dk_28 (dk_at dksX1_two_0 23 rfl rfl)
theorem dX1_two_24 : decode cX1_two 24 = .ok (.if_icmp .eq 10, 3) := dk_159 0 10 (dk_at dksX1_two_1 0 rfl rfl)
theorem dX1_two_27 : decode cX1_two 27 = .ok (.iload_n 3, 1) := dk_29 (dk_at dksX1_two_1 3 rfl rfl)
theorem dX1_two_28 : decode cX1_two 28 = .ok (.invokestatic 34, 3) := dk_184 0 34 (dk_at dksX1_two_1 4 rfl rfl)
theorem dX1_two_31 : decode cX1_two 31 = .ok (.ifCond .ne 5, 3) := dk_154 0 5 (dk_at dksX1_two_1 7 rfl rfl)
theorem dX1_two_34 : decode cX1_two 34 = .ok (.iconst (-1), 1) := dk_2 (dk_at dksX1_two_1 10 rfl rfl)
theorem dX1_two_35 : decode cX1_two 35 = .ok (.ireturn, 1) := dk_172 (dk_at dksX1_two_1 11 rfl rfl)
theorem dX1_two_36 : decode cX1_two 36 = .ok (.iconst 0, 1) := dk_3 (dk_at dksX1_two_1 12 rfl rfl)
theorem dX1_two_37 : decode cX1_two 37 = .ok (.istore 4, 2) := dk_54 4 (dk_at dksX1_two_1 13 rfl rfl)
theorem dX1_two_39 : decode cX1_two 39 = .ok (.iload 4, 2) := dk_21 4 (dk_at dksX1_two_1 15 rfl rfl)
theorem dX1_two_41 : decode cX1_two 41 = .ok (.iconst 4, 1) := dk_7 (dk_at dksX1_two_1 17 rfl rfl)
theorem dX1_two_42 : decode cX1_two 42 = .ok (.if_icmp .ge 84, 3) := dk_162 0 84 (dk_at dksX1_two_1 18 rfl rfl)
theorem dX1_two_45 : decode cX1_two 45 = .ok (.iload 4, 2) := dk_21 4 (dk_at dksX1_two_1 21 rfl rfl)
theorem dX1_two_47 : decode cX1_two 47 = .ok (.iconst 2, 1) := dk_5 (dk_at dksX1_two_1 23 rfl rfl)
theorem dX1_two_48 : decode cX1_two 48 = .ok (.idiv, 1) := dk_108 (dk_at dksX1_two_2 0 rfl rfl)
theorem dX1_two_49 : decode cX1_two 49 = .ok (.istore 5, 2) := dk_54 5 (dk_at dksX1_two_2 1 rfl rfl)
theorem dX1_two_51 : decode cX1_two 51 = .ok (.iload 4, 2) := dk_21 4 (dk_at dksX1_two_2 3 rfl rfl)
theorem dX1_two_53 : decode cX1_two 53 = .ok (.iconst 2, 1) := dk_5 (dk_at dksX1_two_2 5 rfl rfl)
theorem dX1_two_54 : decode cX1_two 54 = .ok (.irem, 1) := dk_112 (dk_at dksX1_two_2 6 rfl rfl)
theorem dX1_two_55 : decode cX1_two 55 = .ok (.istore 6, 2) := dk_54 6 (dk_at dksX1_two_2 7 rfl rfl)
theorem dX1_two_57 : decode cX1_two 57 = .ok (.aload_n 0, 1) := dk_42 (dk_at dksX1_two_2 9 rfl rfl)
theorem dX1_two_58 : decode cX1_two 58 = .ok (.iload_n 1, 1) := dk_27 (dk_at dksX1_two_2 10 rfl rfl)
theorem dX1_two_59 : decode cX1_two 59 = .ok (.iconst 1, 1) := dk_4 (dk_at dksX1_two_2 11 rfl rfl)
theorem dX1_two_60 : decode cX1_two 60 = .ok (.iload 5, 2) := dk_21 5 (dk_at dksX1_two_2 12 rfl rfl)
theorem dX1_two_62 : decode cX1_two 62 = .ok (.isub, 1) := dk_100 (dk_at dksX1_two_2 14 rfl rfl)
theorem dX1_two_63 : decode cX1_two 63 = .ok (.iload_n 2, 1) := dk_28 (dk_at dksX1_two_2 15 rfl rfl)
theorem dX1_two_64 : decode cX1_two 64 = .ok (.iload 6, 2) := dk_21 6 (dk_at dksX1_two_2 16 rfl rfl)
theorem dX1_two_66 : decode cX1_two 66 = .ok (.iload_n 3, 1) := dk_29 (dk_at dksX1_two_2 18 rfl rfl)
theorem dX1_two_67 : decode cX1_two 67 = .ok (.invokevirtual 270, 3) := dk_182 1 14 (dk_at dksX1_two_2 19 rfl rfl)
theorem dX1_two_70 : decode cX1_two 70 = .ok (.aload_n 0, 1) := dk_42 (dk_at dksX1_two_2 22 rfl rfl)
theorem dX1_two_71 : decode cX1_two 71 = .ok (.iload_n 1, 1) := dk_27 (dk_at dksX1_two_2 23 rfl rfl)
theorem dX1_two_72 : decode cX1_two 72 = .ok (.iload 5, 2) := dk_21 5 (dk_at dksX1_two_3 0 rfl rfl)
theorem dX1_two_74 : decode cX1_two 74 = .ok (.iload_n 2, 1) := dk_28 (dk_at dksX1_two_3 2 rfl rfl)
theorem dX1_two_75 : decode cX1_two 75 = .ok (.iload 6, 2) := dk_21 6 (dk_at dksX1_two_3 3 rfl rfl)
theorem dX1_two_77 : decode cX1_two 77 = .ok (.iload_n 3, 1) := dk_29 (dk_at dksX1_two_3 5 rfl rfl)
theorem dX1_two_78 : decode cX1_two 78 = .ok (.invokevirtual 270, 3) := dk_182 1 14 (dk_at dksX1_two_3 6 rfl rfl)
theorem dX1_two_81 : decode cX1_two 81 = .ok (.if_icmp .gt 39, 3) := dk_163 0 39 (dk_at dksX1_two_3 9 rfl rfl)
theorem dX1_two_84 : decode cX1_two 84 = .ok (.aload_n 0, 1) := dk_42 (dk_at dksX1_two_3 12 rfl rfl)
theorem dX1_two_85 : decode cX1_two 85 = .ok (.iload_n 2, 1) := dk_28 (dk_at dksX1_two_3 13 rfl rfl)
theorem dX1_two_86 : decode cX1_two 86 = .ok (.iconst 1, 1) := dk_4 (dk_at dksX1_two_3 14 rfl rfl)
theorem dX1_two_87 : decode cX1_two 87 = .ok (.iload 6, 2) := dk_21 6 (dk_at dksX1_two_3 15 rfl rfl)
theorem dX1_two_89 : decode cX1_two 89 = .ok (.isub, 1) := dk_100 (dk_at dksX1_two_3 17 rfl rfl)
theorem dX1_two_90 : decode cX1_two 90 = .ok (.iload_n 1, 1) := dk_27 (dk_at dksX1_two_3 18 rfl rfl)
theorem dX1_two_91 : decode cX1_two 91 = .ok (.iload 5, 2) := dk_21 5 (dk_at dksX1_two_3 19 rfl rfl)
theorem dX1_two_93 : decode cX1_two 93 = .ok (.iload_n 3, 1) := dk_29 (dk_at dksX1_two_3 21 rfl rfl)
theorem dX1_two_94 : decode cX1_two 94 = .ok (.invokevirtual 270, 3) := dk_182 1 14 (dk_at dksX1_two_4 0 rfl rfl)
theorem dX1_two_97 : decode cX1_two 97 = .ok (.aload_n 0, 1) := dk_42 (dk_at dksX1_two_4 3 rfl rfl)
theorem dX1_two_98 : decode cX1_two 98 = .ok (.iload_n 2, 1) := dk_28 (dk_at dksX1_two_4 4 rfl rfl)
theorem dX1_two_99 : decode cX1_two 99 = .ok (.iload 6, 2) := dk_21 6 (dk_at dksX1_two_4 5 rfl rfl)
theorem dX1_two_101 : decode cX1_two 101 = .ok (.iload_n 1, 1) := dk_27 (dk_at dksX1_two_4 7 rfl rfl)
theorem dX1_two_102 : decode cX1_two 102 = .ok (.iload 5, 2) := dk_21 5 (dk_at dksX1_two_4 8 rfl rfl)
theorem dX1_two_104 : decode cX1_two 104 = .ok (.iload_n 3, 1) := dk_29 (dk_at dksX1_two_4 10 rfl rfl)
theorem dX1_two_105 : decode cX1_two 105 = .ok (.invokevirtual 270, 3) := dk_182 1 14 (dk_at dksX1_two_4 11 rfl rfl)
theorem dX1_two_108 : decode cX1_two 108 = .ok (.if_icmp .gt 12, 3) := dk_163 0 12 (dk_at dksX1_two_4 14 rfl rfl)
theorem dX1_two_111 : decode cX1_two 111 = .ok (.bipush 10, 2) := dk_16 10 (dk_at dksX1_two_4 17 rfl rfl)
theorem dX1_two_113 : decode cX1_two 113 = .ok (.iload 5, 2) := dk_21 5 (dk_at dksX1_two_4 19 rfl rfl)
theorem dX1_two_115 : decode cX1_two 115 = .ok (.imul, 1) := dk_104 (dk_at dksX1_two_4 21 rfl rfl)
theorem dX1_two_116 : decode cX1_two 116 = .ok (.iload 6, 2) := dk_21 6 (dk_at dksX1_two_4 22 rfl rfl)
theorem dX1_two_118 : decode cX1_two 118 = .ok (.iadd, 1) := dk_96 (dk_at dksX1_two_5 0 rfl rfl)
theorem dX1_two_119 : decode cX1_two 119 = .ok (.ireturn, 1) := dk_172 (dk_at dksX1_two_5 1 rfl rfl)
theorem dX1_two_120 : decode cX1_two 120 = .ok (.iinc 4 1, 3) := dk_132 4 1 (dk_at dksX1_two_5 2 rfl rfl)
theorem dX1_two_123 : decode cX1_two 123 = .ok (.goto (-84), 3) := dk_167 255 172 (dk_at dksX1_two_5 5 rfl rfl)
theorem dX1_two_126 : decode cX1_two 126 = .ok (.bipush (-4), 2) := dk_16 252 (dk_at dksX1_two_5 8 rfl rfl)
theorem dX1_two_128 : decode cX1_two 128 = .ok (.ireturn, 1) := dk_172 (dk_at dksX1_two_5 10 rfl rfl)
abbrev cX1_gets : ByteArray := prog_1_method_50_code
def yX1_gets : MethodName := ⟨RX1, "gets", "(IIIII)I"⟩
def dkwX1_gets_1 : List UInt8 := [3, 28, 96, 172]
abbrev dktX1_gets_1 : List UInt8 := dkwX1_gets_1 ++ []
def dkwX1_gets_0 : List UInt8 := [42, 27, 21, 5, 28, 182, 1, 11, 42, 29, 21, 5, 21, 4, 182, 1, 11, 162, 0, 7, 6, 167, 0, 4]
abbrev dktX1_gets_0 : List UInt8 := dkwX1_gets_0 ++ dktX1_gets_1
theorem dksX1_gets_0 : cX1_gets.data.toList.drop 0 = dktX1_gets_0 := by decide +kernel
theorem dksX1_gets_1 : cX1_gets.data.toList.drop 24 = dktX1_gets_1 := dk_seg dksX1_gets_0 24 rfl rfl
theorem dX1_gets_0 : decode cX1_gets 0 = .ok (.aload_n 0, 1) := dk_42 (dk_at dksX1_gets_0 0 rfl rfl)
theorem dX1_gets_1 : decode cX1_gets 1 = .ok (.iload_n 1, 1) := dk_27 (dk_at dksX1_gets_0 1 rfl rfl)
theorem dX1_gets_2 : decode cX1_gets 2 = .ok (.iload 5, 2) := dk_21 5 (dk_at dksX1_gets_0 2 rfl rfl)
theorem dX1_gets_4 : decode cX1_gets 4 = .ok (.iload_n 2, 1) := dk_28 (dk_at dksX1_gets_0 4 rfl rfl)
theorem dX1_gets_5 : decode cX1_gets 5 = .ok (.invokevirtual 267, 3) := dk_182 1 11 (dk_at dksX1_gets_0 5 rfl rfl)
theorem dX1_gets_8 : decode cX1_gets 8 = .ok (.aload_n 0, 1) := dk_42 (dk_at dksX1_gets_0 8 rfl rfl)
theorem dX1_gets_9 : decode cX1_gets 9 = .ok (.iload_n 3, 1) := dk_29 (dk_at dksX1_gets_0 9 rfl rfl)
theorem dX1_gets_10 : decode cX1_gets 10 = .ok (.iload 5, 2) := dk_21 5 (dk_at dksX1_gets_0 10 rfl rfl)
theorem dX1_gets_12 : decode cX1_gets 12 = .ok (.iload 4, 2) := dk_21 4 (dk_at dksX1_gets_0 12 rfl rfl)
theorem dX1_gets_14 : decode cX1_gets 14 = .ok (.invokevirtual 267, 3) := dk_182 1 11 (dk_at dksX1_gets_0 14 rfl rfl)
theorem dX1_gets_17 : decode cX1_gets 17 = .ok (.if_icmp .ge 7, 3) := dk_162 0 7 (dk_at dksX1_gets_0 17 rfl rfl)
theorem dX1_gets_20 : decode cX1_gets 20 = .ok (.iconst 3, 1) := dk_6 (dk_at dksX1_gets_0 20 rfl rfl)
theorem dX1_gets_21 : decode cX1_gets 21 = .ok (.goto 4, 3) := dk_167 0 4 (dk_at dksX1_gets_0 21 rfl rfl)
theorem dX1_gets_24 : decode cX1_gets 24 = .ok (.iconst 0, 1) := dk_3 (dk_at dksX1_gets_1 0 rfl rfl)
theorem dX1_gets_25 : decode cX1_gets 25 = .ok (.iload_n 2, 1) := dk_28 (dk_at dksX1_gets_1 1 rfl rfl)
theorem dX1_gets_26 : decode cX1_gets 26 = .ok (.iadd, 1) := dk_96 (dk_at dksX1_gets_1 2 rfl rfl)
theorem dX1_gets_27 : decode cX1_gets 27 = .ok (.ireturn, 1) := dk_172 (dk_at dksX1_gets_1 3 rfl rfl)
abbrev cX1_thereBy : ByteArray := prog_1_method_49_code
def yX1_thereBy : MethodName := ⟨RX1, "thereBy", "(III)I"⟩
def dkwX1_thereBy_0 : List UInt8 := [8, 29, 104, 42, 27, 28, 8, 29, 104, 182, 0, 174, 96, 172]
abbrev dktX1_thereBy_0 : List UInt8 := dkwX1_thereBy_0 ++ []
theorem dksX1_thereBy_0 : cX1_thereBy.data.toList.drop 0 = dktX1_thereBy_0 := by decide +kernel
theorem dX1_thereBy_0 : decode cX1_thereBy 0 = .ok (.iconst 5, 1) := dk_8 (dk_at dksX1_thereBy_0 0 rfl rfl)
theorem dX1_thereBy_1 : decode cX1_thereBy 1 = .ok (.iload_n 3, 1) := dk_29 (dk_at dksX1_thereBy_0 1 rfl rfl)
theorem dX1_thereBy_2 : decode cX1_thereBy 2 = .ok (.imul, 1) := dk_104 (dk_at dksX1_thereBy_0 2 rfl rfl)
theorem dX1_thereBy_3 : decode cX1_thereBy 3 = .ok (.aload_n 0, 1) := dk_42 (dk_at dksX1_thereBy_0 3 rfl rfl)
theorem dX1_thereBy_4 : decode cX1_thereBy 4 = .ok (.iload_n 1, 1) := dk_27 (dk_at dksX1_thereBy_0 4 rfl rfl)
theorem dX1_thereBy_5 : decode cX1_thereBy 5 = .ok (.iload_n 2, 1) := dk_28 (dk_at dksX1_thereBy_0 5 rfl rfl)
theorem dX1_thereBy_6 : decode cX1_thereBy 6 = .ok (.iconst 5, 1) := dk_8 (dk_at dksX1_thereBy_0 6 rfl rfl)
theorem dX1_thereBy_7 : decode cX1_thereBy 7 = .ok (.iload_n 3, 1) := dk_29 (dk_at dksX1_thereBy_0 7 rfl rfl)
theorem dX1_thereBy_8 : decode cX1_thereBy 8 = .ok (.imul, 1) := dk_104 (dk_at dksX1_thereBy_0 8 rfl rfl)
theorem dX1_thereBy_9 : decode cX1_thereBy 9 = .ok (.invokevirtual 174, 3) := dk_182 0 174 (dk_at dksX1_thereBy_0 9 rfl rfl)
theorem dX1_thereBy_12 : decode cX1_thereBy 12 = .ok (.iadd, 1) := dk_96 (dk_at dksX1_thereBy_0 12 rfl rfl)
theorem dX1_thereBy_13 : decode cX1_thereBy 13 = .ok (.ireturn, 1) := dk_172 (dk_at dksX1_thereBy_0 13 rfl rfl)
abbrev cX1_storm : ByteArray := prog_1_method_54_code
def yX1_storm : MethodName := ⟨RX1, "storm", "(IIIII)J"⟩
def dkwX1_storm_8 : List UInt8 := [22, 8, 21, 5, 184, 1, 24, 173]
abbrev dktX1_storm_8 : List UInt8 := dkwX1_storm_8 ++ []
def dkwX1_storm_7 : List UInt8 := [182, 0, 161, 28, 161, 0, 8, 22, 11, 167, 0, 4, 9, 97, 55, 6, 132, 10, 1, 167, 255, 162, 22, 6]
abbrev dktX1_storm_7 : List UInt8 := dkwX1_storm_7 ++ dktX1_storm_8
def dkwX1_storm_6 : List UInt8 := [21, 10, 21, 13, 184, 0, 181, 182, 0, 207, 132, 13, 1, 167, 255, 209, 22, 6, 42, 180, 0, 38, 27]
abbrev dktX1_storm_6 : List UInt8 := dkwX1_storm_6 ++ dktX1_storm_7
def dkwX1_storm_5 : List UInt8 := [21, 13, 184, 0, 181, 153, 0, 7, 10, 167, 0, 8, 21, 4, 4, 100, 133, 105, 55, 11, 42, 180, 0, 38]
abbrev dktX1_storm_5 : List UInt8 := dkwX1_storm_5 ++ dktX1_storm_6
def dkwX1_storm_4 : List UInt8 := [120, 162, 0, 92, 42, 182, 0, 167, 10, 55, 11, 3, 54, 13, 21, 13, 29, 162, 0, 47, 22, 11, 21, 10]
abbrev dktX1_storm_4 : List UInt8 := dkwX1_storm_4 ++ dktX1_storm_5
def dkwX1_storm_3 : List UInt8 := [162, 0, 17, 22, 8, 21, 4, 133, 105, 55, 8, 132, 10, 1, 167, 255, 239, 3, 54, 10, 21, 10, 4, 29]
abbrev dktX1_storm_3 : List UInt8 := dkwX1_storm_3 ++ dktX1_storm_4
def dkwX1_storm_2 : List UInt8 := [184, 0, 30, 154, 0, 7, 20, 1, 22, 173, 9, 55, 6, 10, 55, 8, 3, 54, 10, 21, 10, 29]
abbrev dktX1_storm_2 : List UInt8 := dkwX1_storm_2 ++ dktX1_storm_3
def dkwX1_storm_1 : List UInt8 := [16, 7, 184, 0, 30, 153, 0, 24, 21, 4, 5, 16, 20, 184, 0, 30, 153, 0, 13, 21, 5, 3, 4]
abbrev dktX1_storm_1 : List UInt8 := dkwX1_storm_1 ++ dktX1_storm_2
def dkwX1_storm_0 : List UInt8 := [42, 180, 0, 101, 27, 182, 0, 69, 153, 0, 44, 28, 4, 16, 60, 184, 0, 30, 153, 0, 34, 29, 3]
abbrev dktX1_storm_0 : List UInt8 := dkwX1_storm_0 ++ dktX1_storm_1
theorem dksX1_storm_0 : cX1_storm.data.toList.drop 0 = dktX1_storm_0 := by decide +kernel
theorem dksX1_storm_1 : cX1_storm.data.toList.drop 23 = dktX1_storm_1 := dk_seg dksX1_storm_0 23 rfl rfl
theorem dksX1_storm_2 : cX1_storm.data.toList.drop 46 = dktX1_storm_2 := dk_seg dksX1_storm_1 23 rfl rfl
theorem dksX1_storm_3 : cX1_storm.data.toList.drop 68 = dktX1_storm_3 := dk_seg dksX1_storm_2 22 rfl rfl
theorem dksX1_storm_4 : cX1_storm.data.toList.drop 92 = dktX1_storm_4 := dk_seg dksX1_storm_3 24 rfl rfl
theorem dksX1_storm_5 : cX1_storm.data.toList.drop 116 = dktX1_storm_5 := dk_seg dksX1_storm_4 24 rfl rfl
theorem dksX1_storm_6 : cX1_storm.data.toList.drop 140 = dktX1_storm_6 := dk_seg dksX1_storm_5 24 rfl rfl
theorem dksX1_storm_7 : cX1_storm.data.toList.drop 163 = dktX1_storm_7 := dk_seg dksX1_storm_6 23 rfl rfl
theorem dksX1_storm_8 : cX1_storm.data.toList.drop 187 = dktX1_storm_8 := dk_seg dksX1_storm_7 24 rfl rfl
theorem dX1_storm_0 : decode cX1_storm 0 = .ok (.aload_n 0, 1) := dk_42 (dk_at dksX1_storm_0 0 rfl rfl)
theorem dX1_storm_1 : decode cX1_storm 1 = .ok (.getfield 101, 3) := dk_180 0 101 (dk_at dksX1_storm_0 1 rfl rfl)
theorem dX1_storm_4 : decode cX1_storm 4 = .ok (.iload_n 1, 1) := dk_27 (dk_at dksX1_storm_0 4 rfl rfl)
theorem dX1_storm_5 : decode cX1_storm 5 = .ok (.invokevirtual 69, 3) := dk_182 0 69 (dk_at dksX1_storm_0 5 rfl rfl)
theorem dX1_storm_8 : decode cX1_storm 8 = .ok (.ifCond .eq 44, 3) := dk_153 0 44 (dk_at dksX1_storm_0 8 rfl rfl)
theorem dX1_storm_11 : decode cX1_storm 11 = .ok (.iload_n 2, 1) := dk_28 (dk_at dksX1_storm_0 11 rfl rfl)
theorem dX1_storm_12 : decode cX1_storm 12 = .ok (.iconst 1, 1) := dk_4 (dk_at dksX1_storm_0 12 rfl rfl)
theorem dX1_storm_13 : decode cX1_storm 13 = .ok (.bipush 60, 2) := dk_16 60 (dk_at dksX1_storm_0 13 rfl rfl)
theorem dX1_storm_15 : decode cX1_storm 15 = .ok (.invokestatic 30, 3) := dk_184 0 30 (dk_at dksX1_storm_0 15 rfl rfl)
theorem dX1_storm_18 : decode cX1_storm 18 = .ok (.ifCond .eq 34, 3) := dk_153 0 34 (dk_at dksX1_storm_0 18 rfl rfl)
theorem dX1_storm_21 : decode cX1_storm 21 = .ok (.iload_n 3, 1) := dk_29 (dk_at dksX1_storm_0 21 rfl rfl)
theorem dX1_storm_22 : decode cX1_storm 22 = .ok (.iconst 0, 1) := dk_3 (dk_at dksX1_storm_0 22 rfl rfl)
theorem dX1_storm_23 : decode cX1_storm 23 = .ok (.bipush 7, 2) := dk_16 7 (dk_at dksX1_storm_1 0 rfl rfl)
theorem dX1_storm_25 : decode cX1_storm 25 = .ok (.invokestatic 30, 3) := dk_184 0 30 (dk_at dksX1_storm_1 2 rfl rfl)
theorem dX1_storm_28 : decode cX1_storm 28 = .ok (.ifCond .eq 24, 3) := dk_153 0 24 (dk_at dksX1_storm_1 5 rfl rfl)
theorem dX1_storm_31 : decode cX1_storm 31 = .ok (.iload 4, 2) := dk_21 4 (dk_at dksX1_storm_1 8 rfl rfl)
theorem dX1_storm_33 : decode cX1_storm 33 = .ok (.iconst 2, 1) := dk_5 (dk_at dksX1_storm_1 10 rfl rfl)
theorem dX1_storm_34 : decode cX1_storm 34 = .ok (.bipush 20, 2) := dk_16 20 (dk_at dksX1_storm_1 11 rfl rfl)
theorem dX1_storm_36 : decode cX1_storm 36 = .ok (.invokestatic 30, 3) := dk_184 0 30 (dk_at dksX1_storm_1 13 rfl rfl)
theorem dX1_storm_39 : decode cX1_storm 39 = .ok (.ifCond .eq 13, 3) := dk_153 0 13 (dk_at dksX1_storm_1 16 rfl rfl)
theorem dX1_storm_42 : decode cX1_storm 42 = .ok (.iload 5, 2) := dk_21 5 (dk_at dksX1_storm_1 19 rfl rfl)
theorem dX1_storm_44 : decode cX1_storm 44 = .ok (.iconst 0, 1) := dk_3 (dk_at dksX1_storm_1 21 rfl rfl)
theorem dX1_storm_45 : decode cX1_storm 45 = .ok (.iconst 1, 1) := dk_4 (dk_at dksX1_storm_1 22 rfl rfl)
theorem dX1_storm_46 : decode cX1_storm 46 = .ok (.invokestatic 30, 3) := dk_184 0 30 (dk_at dksX1_storm_2 0 rfl rfl)
theorem dX1_storm_49 : decode cX1_storm 49 = .ok (.ifCond .ne 7, 3) := dk_154 0 7 (dk_at dksX1_storm_2 3 rfl rfl)
theorem dX1_storm_52 : decode cX1_storm 52 = .ok (.ldc2_w 278, 3) := dk_20 1 22 (dk_at dksX1_storm_2 6 rfl rfl)
theorem dX1_storm_55 : decode cX1_storm 55 = .ok (.lreturn, 1) := dk_173 (dk_at dksX1_storm_2 9 rfl rfl)
theorem dX1_storm_56 : decode cX1_storm 56 = .ok (.lconst 0, 1) := dk_9 (dk_at dksX1_storm_2 10 rfl rfl)
theorem dX1_storm_57 : decode cX1_storm 57 = .ok (.lstore 6, 2) := dk_55 6 (dk_at dksX1_storm_2 11 rfl rfl)
theorem dX1_storm_59 : decode cX1_storm 59 = .ok (.lconst 1, 1) := dk_10 (dk_at dksX1_storm_2 13 rfl rfl)
theorem dX1_storm_60 : decode cX1_storm 60 = .ok (.lstore 8, 2) := dk_55 8 (dk_at dksX1_storm_2 14 rfl rfl)
theorem dX1_storm_62 : decode cX1_storm 62 = .ok (.iconst 0, 1) := dk_3 (dk_at dksX1_storm_2 16 rfl rfl)
theorem dX1_storm_63 : decode cX1_storm 63 = .ok (.istore 10, 2) := dk_54 10 (dk_at dksX1_storm_2 17 rfl rfl)
theorem dX1_storm_65 : decode cX1_storm 65 = .ok (.iload 10, 2) := dk_21 10 (dk_at dksX1_storm_2 19 rfl rfl)
theorem dX1_storm_67 : decode cX1_storm 67 = .ok (.iload_n 3, 1) := dk_29 (dk_at dksX1_storm_2 21 rfl rfl)
theorem dX1_storm_68 : decode cX1_storm 68 = .ok (.if_icmp .ge 17, 3) := dk_162 0 17 (dk_at dksX1_storm_3 0 rfl rfl)
theorem dX1_storm_71 : decode cX1_storm 71 = .ok (.lload 8, 2) := dk_22 8 (dk_at dksX1_storm_3 3 rfl rfl)
theorem dX1_storm_73 : decode cX1_storm 73 = .ok (.iload 4, 2) := dk_21 4 (dk_at dksX1_storm_3 5 rfl rfl)
theorem dX1_storm_75 : decode cX1_storm 75 = .ok (.i2l, 1) := dk_133 (dk_at dksX1_storm_3 7 rfl rfl)
theorem dX1_storm_76 : decode cX1_storm 76 = .ok (.lmul, 1) := dk_105 (dk_at dksX1_storm_3 8 rfl rfl)
theorem dX1_storm_77 : decode cX1_storm 77 = .ok (.lstore 8, 2) := dk_55 8 (dk_at dksX1_storm_3 9 rfl rfl)
theorem dX1_storm_79 : decode cX1_storm 79 = .ok (.iinc 10 1, 3) := dk_132 10 1 (dk_at dksX1_storm_3 11 rfl rfl)
theorem dX1_storm_82 : decode cX1_storm 82 = .ok (.goto (-17), 3) := dk_167 255 239 (dk_at dksX1_storm_3 14 rfl rfl)
theorem dX1_storm_85 : decode cX1_storm 85 = .ok (.iconst 0, 1) := dk_3 (dk_at dksX1_storm_3 17 rfl rfl)
theorem dX1_storm_86 : decode cX1_storm 86 = .ok (.istore 10, 2) := dk_54 10 (dk_at dksX1_storm_3 18 rfl rfl)
theorem dX1_storm_88 : decode cX1_storm 88 = .ok (.iload 10, 2) := dk_21 10 (dk_at dksX1_storm_3 20 rfl rfl)
theorem dX1_storm_90 : decode cX1_storm 90 = .ok (.iconst 1, 1) := dk_4 (dk_at dksX1_storm_3 22 rfl rfl)
theorem dX1_storm_91 : decode cX1_storm 91 = .ok (.iload_n 3, 1) := dk_29 (dk_at dksX1_storm_3 23 rfl rfl)
theorem dX1_storm_92 : decode cX1_storm 92 = .ok (.ishl, 1) := dk_120 (dk_at dksX1_storm_4 0 rfl rfl)
theorem dX1_storm_93 : decode cX1_storm 93 = .ok (.if_icmp .ge 92, 3) := dk_162 0 92 (dk_at dksX1_storm_4 1 rfl rfl)
theorem dX1_storm_96 : decode cX1_storm 96 = .ok (.aload_n 0, 1) := dk_42 (dk_at dksX1_storm_4 4 rfl rfl)
theorem dX1_storm_97 : decode cX1_storm 97 = .ok (.invokevirtual 167, 3) := dk_182 0 167 (dk_at dksX1_storm_4 5 rfl rfl)
theorem dX1_storm_100 : decode cX1_storm 100 = .ok (.lconst 1, 1) := dk_10 (dk_at dksX1_storm_4 8 rfl rfl)
theorem dX1_storm_101 : decode cX1_storm 101 = .ok (.lstore 11, 2) := dk_55 11 (dk_at dksX1_storm_4 9 rfl rfl)
theorem dX1_storm_103 : decode cX1_storm 103 = .ok (.iconst 0, 1) := dk_3 (dk_at dksX1_storm_4 11 rfl rfl)
theorem dX1_storm_104 : decode cX1_storm 104 = .ok (.istore 13, 2) := dk_54 13 (dk_at dksX1_storm_4 12 rfl rfl)
theorem dX1_storm_106 : decode cX1_storm 106 = .ok (.iload 13, 2) := dk_21 13 (dk_at dksX1_storm_4 14 rfl rfl)
theorem dX1_storm_108 : decode cX1_storm 108 = .ok (.iload_n 3, 1) := dk_29 (dk_at dksX1_storm_4 16 rfl rfl)
theorem dX1_storm_109 : decode cX1_storm 109 = .ok (.if_icmp .ge 47, 3) := dk_162 0 47 (dk_at dksX1_storm_4 17 rfl rfl)
theorem dX1_storm_112 : decode cX1_storm 112 = .ok (.lload 11, 2) := dk_22 11 (dk_at dksX1_storm_4 20 rfl rfl)
theorem dX1_storm_114 : decode cX1_storm 114 = .ok (.iload 10, 2) := dk_21 10 (dk_at dksX1_storm_4 22 rfl rfl)
theorem dX1_storm_116 : decode cX1_storm 116 = .ok (.iload 13, 2) := dk_21 13 (dk_at dksX1_storm_5 0 rfl rfl)
theorem dX1_storm_118 : decode cX1_storm 118 = .ok (.invokestatic 181, 3) := dk_184 0 181 (dk_at dksX1_storm_5 2 rfl rfl)
theorem dX1_storm_121 : decode cX1_storm 121 = .ok (.ifCond .eq 7, 3) := dk_153 0 7 (dk_at dksX1_storm_5 5 rfl rfl)
theorem dX1_storm_124 : decode cX1_storm 124 = .ok (.lconst 1, 1) := dk_10 (dk_at dksX1_storm_5 8 rfl rfl)
theorem dX1_storm_125 : decode cX1_storm 125 = .ok (.goto 8, 3) := dk_167 0 8 (dk_at dksX1_storm_5 9 rfl rfl)
theorem dX1_storm_128 : decode cX1_storm 128 = .ok (.iload 4, 2) := dk_21 4 (dk_at dksX1_storm_5 12 rfl rfl)
theorem dX1_storm_130 : decode cX1_storm 130 = .ok (.iconst 1, 1) := dk_4 (dk_at dksX1_storm_5 14 rfl rfl)
theorem dX1_storm_131 : decode cX1_storm 131 = .ok (.isub, 1) := dk_100 (dk_at dksX1_storm_5 15 rfl rfl)
theorem dX1_storm_132 : decode cX1_storm 132 = .ok (.i2l, 1) := dk_133 (dk_at dksX1_storm_5 16 rfl rfl)
theorem dX1_storm_133 : decode cX1_storm 133 = .ok (.lmul, 1) := dk_105 (dk_at dksX1_storm_5 17 rfl rfl)
theorem dX1_storm_134 : decode cX1_storm 134 = .ok (.lstore 11, 2) := dk_55 11 (dk_at dksX1_storm_5 18 rfl rfl)
theorem dX1_storm_136 : decode cX1_storm 136 = .ok (.aload_n 0, 1) := dk_42 (dk_at dksX1_storm_5 20 rfl rfl)
theorem dX1_storm_137 : decode cX1_storm 137 = .ok (.getfield 38, 3) := dk_180 0 38 (dk_at dksX1_storm_5 21 rfl rfl)
theorem dX1_storm_140 : decode cX1_storm 140 = .ok (.iload 10, 2) := dk_21 10 (dk_at dksX1_storm_6 0 rfl rfl)
theorem dX1_storm_142 : decode cX1_storm 142 = .ok (.iload 13, 2) := dk_21 13 (dk_at dksX1_storm_6 2 rfl rfl)
theorem dX1_storm_144 : decode cX1_storm 144 = .ok (.invokestatic 181, 3) := dk_184 0 181 (dk_at dksX1_storm_6 4 rfl rfl)
theorem dX1_storm_147 : decode cX1_storm 147 = .ok (.invokevirtual 207, 3) := dk_182 0 207 (dk_at dksX1_storm_6 7 rfl rfl)
theorem dX1_storm_150 : decode cX1_storm 150 = .ok (.iinc 13 1, 3) := dk_132 13 1 (dk_at dksX1_storm_6 10 rfl rfl)
theorem dX1_storm_153 : decode cX1_storm 153 = .ok (.goto (-47), 3) := dk_167 255 209 (dk_at dksX1_storm_6 13 rfl rfl)
theorem dX1_storm_156 : decode cX1_storm 156 = .ok (.lload 6, 2) := dk_22 6 (dk_at dksX1_storm_6 16 rfl rfl)
theorem dX1_storm_158 : decode cX1_storm 158 = .ok (.aload_n 0, 1) := dk_42 (dk_at dksX1_storm_6 18 rfl rfl)
theorem dX1_storm_159 : decode cX1_storm 159 = .ok (.getfield 38, 3) := dk_180 0 38 (dk_at dksX1_storm_6 19 rfl rfl)
theorem dX1_storm_162 : decode cX1_storm 162 = .ok (.iload_n 1, 1) := dk_27 (dk_at dksX1_storm_6 22 rfl rfl)
theorem dX1_storm_163 : decode cX1_storm 163 = .ok (.invokevirtual 161, 3) := dk_182 0 161 (dk_at dksX1_storm_7 0 rfl rfl)
theorem dX1_storm_166 : decode cX1_storm 166 = .ok (.iload_n 2, 1) := dk_28 (dk_at dksX1_storm_7 3 rfl rfl)
theorem dX1_storm_167 : decode cX1_storm 167 = .ok (.if_icmp .lt 8, 3) := dk_161 0 8 (dk_at dksX1_storm_7 4 rfl rfl)
theorem dX1_storm_170 : decode cX1_storm 170 = .ok (.lload 11, 2) := dk_22 11 (dk_at dksX1_storm_7 7 rfl rfl)
theorem dX1_storm_172 : decode cX1_storm 172 = .ok (.goto 4, 3) := dk_167 0 4 (dk_at dksX1_storm_7 9 rfl rfl)
theorem dX1_storm_175 : decode cX1_storm 175 = .ok (.lconst 0, 1) := dk_9 (dk_at dksX1_storm_7 12 rfl rfl)
theorem dX1_storm_176 : decode cX1_storm 176 = .ok (.ladd, 1) := dk_97 (dk_at dksX1_storm_7 13 rfl rfl)
theorem dX1_storm_177 : decode cX1_storm 177 = .ok (.lstore 6, 2) := dk_55 6 (dk_at dksX1_storm_7 14 rfl rfl)
theorem dX1_storm_179 : decode cX1_storm 179 = .ok (.iinc 10 1, 3) := dk_132 10 1 (dk_at dksX1_storm_7 16 rfl rfl)
theorem dX1_storm_182 : decode cX1_storm 182 = .ok (.goto (-94), 3) := dk_167 255 162 (dk_at dksX1_storm_7 19 rfl rfl)
theorem dX1_storm_185 : decode cX1_storm 185 = .ok (.lload 6, 2) := dk_22 6 (dk_at dksX1_storm_7 22 rfl rfl)
theorem dX1_storm_187 : decode cX1_storm 187 = .ok (.lload 8, 2) := dk_22 8 (dk_at dksX1_storm_8 0 rfl rfl)
theorem dX1_storm_189 : decode cX1_storm 189 = .ok (.iload 5, 2) := dk_21 5 (dk_at dksX1_storm_8 2 rfl rfl)
theorem dX1_storm_191 : decode cX1_storm 191 = .ok (.invokestatic 280, 3) := dk_184 1 24 (dk_at dksX1_storm_8 4 rfl rfl)
theorem dX1_storm_194 : decode cX1_storm 194 = .ok (.lreturn, 1) := dk_173 (dk_at dksX1_storm_8 7 rfl rfl)
abbrev cX1_partOf : ByteArray := prog_1_method_53_code
def yX1_partOf : MethodName := ⟨RX1, "partOf", "(JJI)J"⟩
def dkwX1_partOf_0 : List UInt8 := [21, 4, 154, 0, 7, 30, 167, 0, 4, 32, 30, 32, 184, 1, 18, 109, 173]
abbrev dktX1_partOf_0 : List UInt8 := dkwX1_partOf_0 ++ []
theorem dksX1_partOf_0 : cX1_partOf.data.toList.drop 0 = dktX1_partOf_0 := by decide +kernel
theorem dX1_partOf_0 : decode cX1_partOf 0 = .ok (.iload 4, 2) := dk_21 4 (dk_at dksX1_partOf_0 0 rfl rfl)
theorem dX1_partOf_2 : decode cX1_partOf 2 = .ok (.ifCond .ne 7, 3) := dk_154 0 7 (dk_at dksX1_partOf_0 2 rfl rfl)
theorem dX1_partOf_5 : decode cX1_partOf 5 = .ok (.lload_n 0, 1) := dk_30 (dk_at dksX1_partOf_0 5 rfl rfl)
theorem dX1_partOf_6 : decode cX1_partOf 6 = .ok (.goto 4, 3) := dk_167 0 4 (dk_at dksX1_partOf_0 6 rfl rfl)
theorem dX1_partOf_9 : decode cX1_partOf 9 = .ok (.lload_n 2, 1) := dk_32 (dk_at dksX1_partOf_0 9 rfl rfl)
theorem dX1_partOf_10 : decode cX1_partOf 10 = .ok (.lload_n 0, 1) := dk_30 (dk_at dksX1_partOf_0 10 rfl rfl)
theorem dX1_partOf_11 : decode cX1_partOf 11 = .ok (.lload_n 2, 1) := dk_32 (dk_at dksX1_partOf_0 11 rfl rfl)
theorem dX1_partOf_12 : decode cX1_partOf 12 = .ok (.invokestatic 274, 3) := dk_184 1 18 (dk_at dksX1_partOf_0 12 rfl rfl)
theorem dX1_partOf_15 : decode cX1_partOf 15 = .ok (.ldiv, 1) := dk_109 (dk_at dksX1_partOf_0 15 rfl rfl)
theorem dX1_partOf_16 : decode cX1_partOf 16 = .ok (.lreturn, 1) := dk_173 (dk_at dksX1_partOf_0 16 rfl rfl)
abbrev cX1_divisor : ByteArray := prog_1_method_52_code
def yX1_divisor : MethodName := ⟨RX1, "divisor", "(JJ)J"⟩
def dkwX1_divisor_0 : List UInt8 := [32, 9, 148, 154, 0, 7, 30, 167, 0, 10, 32, 30, 32, 113, 184, 1, 18, 173]
abbrev dktX1_divisor_0 : List UInt8 := dkwX1_divisor_0 ++ []
theorem dksX1_divisor_0 : cX1_divisor.data.toList.drop 0 = dktX1_divisor_0 := by decide +kernel
theorem dX1_divisor_0 : decode cX1_divisor 0 = .ok (.lload_n 2, 1) := dk_32 (dk_at dksX1_divisor_0 0 rfl rfl)
theorem dX1_divisor_1 : decode cX1_divisor 1 = .ok (.lconst 0, 1) := dk_9 (dk_at dksX1_divisor_0 1 rfl rfl)
theorem dX1_divisor_2 : decode cX1_divisor 2 = .ok (.lcmp, 1) := dk_148 (dk_at dksX1_divisor_0 2 rfl rfl)
theorem dX1_divisor_3 : decode cX1_divisor 3 = .ok (.ifCond .ne 7, 3) := dk_154 0 7 (dk_at dksX1_divisor_0 3 rfl rfl)
theorem dX1_divisor_6 : decode cX1_divisor 6 = .ok (.lload_n 0, 1) := dk_30 (dk_at dksX1_divisor_0 6 rfl rfl)
theorem dX1_divisor_7 : decode cX1_divisor 7 = .ok (.goto 10, 3) := dk_167 0 10 (dk_at dksX1_divisor_0 7 rfl rfl)
theorem dX1_divisor_10 : decode cX1_divisor 10 = .ok (.lload_n 2, 1) := dk_32 (dk_at dksX1_divisor_0 10 rfl rfl)
theorem dX1_divisor_11 : decode cX1_divisor 11 = .ok (.lload_n 0, 1) := dk_30 (dk_at dksX1_divisor_0 11 rfl rfl)
theorem dX1_divisor_12 : decode cX1_divisor 12 = .ok (.lload_n 2, 1) := dk_32 (dk_at dksX1_divisor_0 12 rfl rfl)
theorem dX1_divisor_13 : decode cX1_divisor 13 = .ok (.lrem, 1) := dk_113 (dk_at dksX1_divisor_0 13 rfl rfl)
theorem dX1_divisor_14 : decode cX1_divisor 14 = .ok (.invokestatic 274, 3) := dk_184 1 18 (dk_at dksX1_divisor_0 14 rfl rfl)
theorem dX1_divisor_17 : decode cX1_divisor 17 = .ok (.lreturn, 1) := dk_173 (dk_at dksX1_divisor_0 17 rfl rfl)
abbrev cX1_mean : ByteArray := prog_1_method_55_code
def yX1_mean : MethodName := ⟨RX1, "mean", "(I)J"⟩
def dkwX1_mean_2 : List UInt8 := [173]
abbrev dktX1_mean_2 : List UInt8 := dkwX1_mean_2 ++ []
def dkwX1_mean_1 : List UInt8 := [133, 167, 0, 23, 42, 180, 0, 101, 182, 0, 171, 133, 42, 180, 0, 101, 180, 0, 42, 133, 27, 184, 1, 24]
abbrev dktX1_mean_1 : List UInt8 := dkwX1_mean_1 ++ dktX1_mean_2
def dkwX1_mean_0 : List UInt8 := [27, 3, 4, 184, 0, 30, 154, 0, 7, 20, 1, 22, 173, 42, 180, 0, 101, 180, 0, 42, 154, 0, 8, 27]
abbrev dktX1_mean_0 : List UInt8 := dkwX1_mean_0 ++ dktX1_mean_1
theorem dksX1_mean_0 : cX1_mean.data.toList.drop 0 = dktX1_mean_0 := by decide +kernel
theorem dksX1_mean_1 : cX1_mean.data.toList.drop 24 = dktX1_mean_1 := dk_seg dksX1_mean_0 24 rfl rfl
theorem dksX1_mean_2 : cX1_mean.data.toList.drop 48 = dktX1_mean_2 := dk_seg dksX1_mean_1 24 rfl rfl
theorem dX1_mean_0 : decode cX1_mean 0 = .ok (.iload_n 1, 1) := dk_27 (dk_at dksX1_mean_0 0 rfl rfl)
theorem dX1_mean_1 : decode cX1_mean 1 = .ok (.iconst 0, 1) := dk_3 (dk_at dksX1_mean_0 1 rfl rfl)
theorem dX1_mean_2 : decode cX1_mean 2 = .ok (.iconst 1, 1) := dk_4 (dk_at dksX1_mean_0 2 rfl rfl)
theorem dX1_mean_3 : decode cX1_mean 3 = .ok (.invokestatic 30, 3) := dk_184 0 30 (dk_at dksX1_mean_0 3 rfl rfl)
theorem dX1_mean_6 : decode cX1_mean 6 = .ok (.ifCond .ne 7, 3) := dk_154 0 7 (dk_at dksX1_mean_0 6 rfl rfl)
theorem dX1_mean_9 : decode cX1_mean 9 = .ok (.ldc2_w 278, 3) := dk_20 1 22 (dk_at dksX1_mean_0 9 rfl rfl)
theorem dX1_mean_12 : decode cX1_mean 12 = .ok (.lreturn, 1) := dk_173 (dk_at dksX1_mean_0 12 rfl rfl)
theorem dX1_mean_13 : decode cX1_mean 13 = .ok (.aload_n 0, 1) := dk_42 (dk_at dksX1_mean_0 13 rfl rfl)
theorem dX1_mean_14 : decode cX1_mean 14 = .ok (.getfield 101, 3) := dk_180 0 101 (dk_at dksX1_mean_0 14 rfl rfl)
theorem dX1_mean_17 : decode cX1_mean 17 = .ok (.getfield 42, 3) := dk_180 0 42 (dk_at dksX1_mean_0 17 rfl rfl)
theorem dX1_mean_20 : decode cX1_mean 20 = .ok (.ifCond .ne 8, 3) := dk_154 0 8 (dk_at dksX1_mean_0 20 rfl rfl)
theorem dX1_mean_23 : decode cX1_mean 23 = .ok (.iload_n 1, 1) := dk_27 (dk_at dksX1_mean_0 23 rfl rfl)
theorem dX1_mean_24 : decode cX1_mean 24 = .ok (.i2l, 1) := dk_133 (dk_at dksX1_mean_1 0 rfl rfl)
theorem dX1_mean_25 : decode cX1_mean 25 = .ok (.goto 23, 3) := dk_167 0 23 (dk_at dksX1_mean_1 1 rfl rfl)
theorem dX1_mean_28 : decode cX1_mean 28 = .ok (.aload_n 0, 1) := dk_42 (dk_at dksX1_mean_1 4 rfl rfl)
theorem dX1_mean_29 : decode cX1_mean 29 = .ok (.getfield 101, 3) := dk_180 0 101 (dk_at dksX1_mean_1 5 rfl rfl)
theorem dX1_mean_32 : decode cX1_mean 32 = .ok (.invokevirtual 171, 3) := dk_182 0 171 (dk_at dksX1_mean_1 8 rfl rfl)
theorem dX1_mean_35 : decode cX1_mean 35 = .ok (.i2l, 1) := dk_133 (dk_at dksX1_mean_1 11 rfl rfl)
theorem dX1_mean_36 : decode cX1_mean 36 = .ok (.aload_n 0, 1) := dk_42 (dk_at dksX1_mean_1 12 rfl rfl)
theorem dX1_mean_37 : decode cX1_mean 37 = .ok (.getfield 101, 3) := dk_180 0 101 (dk_at dksX1_mean_1 13 rfl rfl)
theorem dX1_mean_40 : decode cX1_mean 40 = .ok (.getfield 42, 3) := dk_180 0 42 (dk_at dksX1_mean_1 16 rfl rfl)
theorem dX1_mean_43 : decode cX1_mean 43 = .ok (.i2l, 1) := dk_133 (dk_at dksX1_mean_1 19 rfl rfl)
theorem dX1_mean_44 : decode cX1_mean 44 = .ok (.iload_n 1, 1) := dk_27 (dk_at dksX1_mean_1 20 rfl rfl)
theorem dX1_mean_45 : decode cX1_mean 45 = .ok (.invokestatic 280, 3) := dk_184 1 24 (dk_at dksX1_mean_1 21 rfl rfl)
theorem dX1_mean_48 : decode cX1_mean 48 = .ok (.lreturn, 1) := dk_173 (dk_at dksX1_mean_2 0 rfl rfl)
abbrev cX1_forged : ByteArray := prog_1_method_56_code
def yX1_forged : MethodName := ⟨RX1, "forged", "(I)I"⟩
def dkwX1_forged_6 : List UInt8 := [132, 5, 1, 167, 255, 161, 16, 252, 172]
abbrev dktX1_forged_6 : List UInt8 := dkwX1_forged_6 ++ []
def dkwX1_forged_5 : List UInt8 := [159, 0, 6, 21, 5, 172, 42, 180, 0, 38, 21, 6, 21, 7, 182, 0, 72, 87, 21, 7, 54, 4]
abbrev dktX1_forged_5 : List UInt8 := dkwX1_forged_5 ++ dktX1_forged_6
def dkwX1_forged_4 : List UInt8 := [184, 0, 34, 153, 0, 23, 21, 5, 158, 0, 21, 42, 180, 0, 38, 180, 0, 155, 21, 6, 46, 21, 4]
abbrev dktX1_forged_4 : List UInt8 := dkwX1_forged_4 ++ dktX1_forged_5
def dkwX1_forged_3 : List UInt8 := [104, 4, 96, 184, 0, 235, 54, 7, 42, 180, 0, 101, 21, 6, 182, 0, 69, 153, 0, 31, 21, 7]
abbrev dktX1_forged_3 : List UInt8 := dkwX1_forged_3 ++ dktX1_forged_4
def dkwX1_forged_2 : List UInt8 := [21, 5, 104, 45, 184, 0, 246, 162, 0, 90, 45, 5, 21, 5, 104, 184, 0, 235, 54, 6, 45, 5, 21, 5]
abbrev dktX1_forged_2 : List UInt8 := dkwX1_forged_2 ++ dktX1_forged_3
def dkwX1_forged_1 : List UInt8 := [184, 0, 246, 5, 112, 4, 160, 0, 6, 16, 243, 172, 42, 182, 0, 167, 16, 252, 54, 4, 3, 54, 5, 5]
abbrev dktX1_forged_1 : List UInt8 := dkwX1_forged_1 ++ dktX1_forged_2
def dkwX1_forged_0 : List UInt8 := [42, 27, 182, 1, 1, 61, 28, 153, 0, 5, 28, 172, 42, 180, 0, 120, 27, 50, 180, 0, 124, 78, 45]
abbrev dktX1_forged_0 : List UInt8 := dkwX1_forged_0 ++ dktX1_forged_1
theorem dksX1_forged_0 : cX1_forged.data.toList.drop 0 = dktX1_forged_0 := by decide +kernel
theorem dksX1_forged_1 : cX1_forged.data.toList.drop 23 = dktX1_forged_1 := dk_seg dksX1_forged_0 23 rfl rfl
theorem dksX1_forged_2 : cX1_forged.data.toList.drop 47 = dktX1_forged_2 := dk_seg dksX1_forged_1 24 rfl rfl
theorem dksX1_forged_3 : cX1_forged.data.toList.drop 71 = dktX1_forged_3 := dk_seg dksX1_forged_2 24 rfl rfl
theorem dksX1_forged_4 : cX1_forged.data.toList.drop 93 = dktX1_forged_4 := dk_seg dksX1_forged_3 22 rfl rfl
theorem dksX1_forged_5 : cX1_forged.data.toList.drop 116 = dktX1_forged_5 := dk_seg dksX1_forged_4 23 rfl rfl
theorem dksX1_forged_6 : cX1_forged.data.toList.drop 138 = dktX1_forged_6 := dk_seg dksX1_forged_5 22 rfl rfl
theorem dX1_forged_0 : decode cX1_forged 0 = .ok (.aload_n 0, 1) := dk_42 (dk_at dksX1_forged_0 0 rfl rfl)
theorem dX1_forged_1 : decode cX1_forged 1 = .ok (.iload_n 1, 1) := dk_27 (dk_at dksX1_forged_0 1 rfl rfl)
theorem dX1_forged_2 : decode cX1_forged 2 = .ok (.invokevirtual 257, 3) := dk_182 1 1 (dk_at dksX1_forged_0 2 rfl rfl)
theorem dX1_forged_5 : decode cX1_forged 5 = .ok (.istore_n 2, 1) := dk_61 (dk_at dksX1_forged_0 5 rfl rfl)
theorem dX1_forged_6 : decode cX1_forged 6 = .ok (.iload_n 2, 1) := dk_28 (dk_at dksX1_forged_0 6 rfl rfl)
theorem dX1_forged_7 : decode cX1_forged 7 = .ok (.ifCond .eq 5, 3) := dk_153 0 5 (dk_at dksX1_forged_0 7 rfl rfl)
theorem dX1_forged_10 : decode cX1_forged 10 = .ok (.iload_n 2, 1) := dk_28 (dk_at dksX1_forged_0 10 rfl rfl)
theorem dX1_forged_11 : decode cX1_forged 11 = .ok (.ireturn, 1) := dk_172 (dk_at dksX1_forged_0 11 rfl rfl)
theorem dX1_forged_12 : decode cX1_forged 12 = .ok (.aload_n 0, 1) := dk_42 (dk_at dksX1_forged_0 12 rfl rfl)
theorem dX1_forged_13 : decode cX1_forged 13 = .ok (.getfield 120, 3) := dk_180 0 120 (dk_at dksX1_forged_0 13 rfl rfl)
theorem dX1_forged_16 : decode cX1_forged 16 = .ok (.iload_n 1, 1) := dk_27 (dk_at dksX1_forged_0 16 rfl rfl)
theorem dX1_forged_17 : decode cX1_forged 17 = .ok (.aaload, 1) := dk_50 (dk_at dksX1_forged_0 17 rfl rfl)
theorem dX1_forged_18 : decode cX1_forged 18 = .ok (.getfield 124, 3) := dk_180 0 124 (dk_at dksX1_forged_0 18 rfl rfl)
theorem dX1_forged_21 : decode cX1_forged 21 = .ok (.astore_n 3, 1) := dk_78 (dk_at dksX1_forged_0 21 rfl rfl)
theorem dX1_forged_22 : decode cX1_forged 22 = .ok (.aload_n 3, 1) := dk_45 (dk_at dksX1_forged_0 22 rfl rfl)
theorem dX1_forged_23 : decode cX1_forged 23 = .ok (.invokestatic 246, 3) := dk_184 0 246 (dk_at dksX1_forged_1 0 rfl rfl)
theorem dX1_forged_26 : decode cX1_forged 26 = .ok (.iconst 2, 1) := dk_5 (dk_at dksX1_forged_1 3 rfl rfl)
theorem dX1_forged_27 : decode cX1_forged 27 = .ok (.irem, 1) := dk_112 (dk_at dksX1_forged_1 4 rfl rfl)
theorem dX1_forged_28 : decode cX1_forged 28 = .ok (.iconst 1, 1) := dk_4 (dk_at dksX1_forged_1 5 rfl rfl)
theorem dX1_forged_29 : decode cX1_forged 29 = .ok (.if_icmp .ne 6, 3) := dk_160 0 6 (dk_at dksX1_forged_1 6 rfl rfl)
theorem dX1_forged_32 : decode cX1_forged 32 = .ok (.bipush (-13), 2) := dk_16 243 (dk_at dksX1_forged_1 9 rfl rfl)
theorem dX1_forged_34 : decode cX1_forged 34 = .ok (.ireturn, 1) := dk_172 (dk_at dksX1_forged_1 11 rfl rfl)
theorem dX1_forged_35 : decode cX1_forged 35 = .ok (.aload_n 0, 1) := dk_42 (dk_at dksX1_forged_1 12 rfl rfl)
theorem dX1_forged_36 : decode cX1_forged 36 = .ok (.invokevirtual 167, 3) := dk_182 0 167 (dk_at dksX1_forged_1 13 rfl rfl)
theorem dX1_forged_39 : decode cX1_forged 39 = .ok (.bipush (-4), 2) := dk_16 252 (dk_at dksX1_forged_1 16 rfl rfl)
theorem dX1_forged_41 : decode cX1_forged 41 = .ok (.istore 4, 2) := dk_54 4 (dk_at dksX1_forged_1 18 rfl rfl)
theorem dX1_forged_43 : decode cX1_forged 43 = .ok (.iconst 0, 1) := dk_3 (dk_at dksX1_forged_1 20 rfl rfl)
theorem dX1_forged_44 : decode cX1_forged 44 = .ok (.istore 5, 2) := dk_54 5 (dk_at dksX1_forged_1 21 rfl rfl)
theorem dX1_forged_46 : decode cX1_forged 46 = .ok (.iconst 2, 1) := dk_5 (dk_at dksX1_forged_1 23 rfl rfl)
theorem dX1_forged_47 : decode cX1_forged 47 = .ok (.iload 5, 2) := dk_21 5 (dk_at dksX1_forged_2 0 rfl rfl)
theorem dX1_forged_49 : decode cX1_forged 49 = .ok (.imul, 1) := dk_104 (dk_at dksX1_forged_2 2 rfl rfl)
theorem dX1_forged_50 : decode cX1_forged 50 = .ok (.aload_n 3, 1) := dk_45 (dk_at dksX1_forged_2 3 rfl rfl)
theorem dX1_forged_51 : decode cX1_forged 51 = .ok (.invokestatic 246, 3) := dk_184 0 246 (dk_at dksX1_forged_2 4 rfl rfl)
theorem dX1_forged_54 : decode cX1_forged 54 = .ok (.if_icmp .ge 90, 3) := dk_162 0 90 (dk_at dksX1_forged_2 7 rfl rfl)
theorem dX1_forged_57 : decode cX1_forged 57 = .ok (.aload_n 3, 1) := dk_45 (dk_at dksX1_forged_2 10 rfl rfl)
theorem dX1_forged_58 : decode cX1_forged 58 = .ok (.iconst 2, 1) := dk_5 (dk_at dksX1_forged_2 11 rfl rfl)
theorem dX1_forged_59 : decode cX1_forged 59 = .ok (.iload 5, 2) := dk_21 5 (dk_at dksX1_forged_2 12 rfl rfl)
theorem dX1_forged_61 : decode cX1_forged 61 = .ok (.imul, 1) := dk_104 (dk_at dksX1_forged_2 14 rfl rfl)
theorem dX1_forged_62 : decode cX1_forged 62 = .ok (.invokestatic 235, 3) := dk_184 0 235 (dk_at dksX1_forged_2 15 rfl rfl)
theorem dX1_forged_65 : decode cX1_forged 65 = .ok (.istore 6, 2) := dk_54 6 (dk_at dksX1_forged_2 18 rfl rfl)
theorem dX1_forged_67 : decode cX1_forged 67 = .ok (.aload_n 3, 1) := dk_45 (dk_at dksX1_forged_2 20 rfl rfl)
theorem dX1_forged_68 : decode cX1_forged 68 = .ok (.iconst 2, 1) := dk_5 (dk_at dksX1_forged_2 21 rfl rfl)
theorem dX1_forged_69 : decode cX1_forged 69 = .ok (.iload 5, 2) := dk_21 5 (dk_at dksX1_forged_2 22 rfl rfl)
theorem dX1_forged_71 : decode cX1_forged 71 = .ok (.imul, 1) := dk_104 (dk_at dksX1_forged_3 0 rfl rfl)
theorem dX1_forged_72 : decode cX1_forged 72 = .ok (.iconst 1, 1) := dk_4 (dk_at dksX1_forged_3 1 rfl rfl)
theorem dX1_forged_73 : decode cX1_forged 73 = .ok (.iadd, 1) := dk_96 (dk_at dksX1_forged_3 2 rfl rfl)
theorem dX1_forged_74 : decode cX1_forged 74 = .ok (.invokestatic 235, 3) := dk_184 0 235 (dk_at dksX1_forged_3 3 rfl rfl)
theorem dX1_forged_77 : decode cX1_forged 77 = .ok (.istore 7, 2) := dk_54 7 (dk_at dksX1_forged_3 6 rfl rfl)
theorem dX1_forged_79 : decode cX1_forged 79 = .ok (.aload_n 0, 1) := dk_42 (dk_at dksX1_forged_3 8 rfl rfl)
theorem dX1_forged_80 : decode cX1_forged 80 = .ok (.getfield 101, 3) := dk_180 0 101 (dk_at dksX1_forged_3 9 rfl rfl)
theorem dX1_forged_83 : decode cX1_forged 83 = .ok (.iload 6, 2) := dk_21 6 (dk_at dksX1_forged_3 12 rfl rfl)
theorem dX1_forged_85 : decode cX1_forged 85 = .ok (.invokevirtual 69, 3) := dk_182 0 69 (dk_at dksX1_forged_3 14 rfl rfl)
theorem dX1_forged_88 : decode cX1_forged 88 = .ok (.ifCond .eq 31, 3) := dk_153 0 31 (dk_at dksX1_forged_3 17 rfl rfl)
theorem dX1_forged_91 : decode cX1_forged 91 = .ok (.iload 7, 2) := dk_21 7 (dk_at dksX1_forged_3 20 rfl rfl)
theorem dX1_forged_93 : decode cX1_forged 93 = .ok (.invokestatic 34, 3) := dk_184 0 34 (dk_at dksX1_forged_4 0 rfl rfl)
theorem dX1_forged_96 : decode cX1_forged 96 = .ok (.ifCond .eq 23, 3) := dk_153 0 23 (dk_at dksX1_forged_4 3 rfl rfl)
theorem dX1_forged_99 : decode cX1_forged 99 = .ok (.iload 5, 2) := dk_21 5 (dk_at dksX1_forged_4 6 rfl rfl)
theorem dX1_forged_101 : decode cX1_forged 101 = .ok (.ifCond .le 21, 3) := dk_158 0 21 (dk_at dksX1_forged_4 8 rfl rfl)
theorem dX1_forged_104 : decode cX1_forged 104 = .ok (.aload_n 0, 1) := dk_42 (dk_at dksX1_forged_4 11 rfl rfl)
theorem dX1_forged_105 : decode cX1_forged 105 = .ok (.getfield 38, 3) := dk_180 0 38 (dk_at dksX1_forged_4 12 rfl rfl)
theorem dX1_forged_108 : decode cX1_forged 108 = .ok (.getfield 155, 3) := dk_180 0 155 (dk_at dksX1_forged_4 15 rfl rfl)
theorem dX1_forged_111 : decode cX1_forged 111 = .ok (.iload 6, 2) := dk_21 6 (dk_at dksX1_forged_4 18 rfl rfl)
theorem dX1_forged_113 : decode cX1_forged 113 = .ok (.iaload, 1) := dk_46 (dk_at dksX1_forged_4 20 rfl rfl)
theorem dX1_forged_114 : decode cX1_forged 114 = .ok (.iload 4, 2) := dk_21 4 (dk_at dksX1_forged_4 21 rfl rfl)
theorem dX1_forged_116 : decode cX1_forged 116 = .ok (.if_icmp .eq 6, 3) := dk_159 0 6 (dk_at dksX1_forged_5 0 rfl rfl)
theorem dX1_forged_119 : decode cX1_forged 119 = .ok (.iload 5, 2) := dk_21 5 (dk_at dksX1_forged_5 3 rfl rfl)
theorem dX1_forged_121 : decode cX1_forged 121 = .ok (.ireturn, 1) := dk_172 (dk_at dksX1_forged_5 5 rfl rfl)
theorem dX1_forged_122 : decode cX1_forged 122 = .ok (.aload_n 0, 1) := dk_42 (dk_at dksX1_forged_5 6 rfl rfl)
theorem dX1_forged_123 : decode cX1_forged 123 = .ok (.getfield 38, 3) := dk_180 0 38 (dk_at dksX1_forged_5 7 rfl rfl)
theorem dX1_forged_126 : decode cX1_forged 126 = .ok (.iload 6, 2) := dk_21 6 (dk_at dksX1_forged_5 10 rfl rfl)
theorem dX1_forged_128 : decode cX1_forged 128 = .ok (.iload 7, 2) := dk_21 7 (dk_at dksX1_forged_5 12 rfl rfl)
theorem dX1_forged_130 : decode cX1_forged 130 = .ok (.invokevirtual 72, 3) := dk_182 0 72 (dk_at dksX1_forged_5 14 rfl rfl)
theorem dX1_forged_133 : decode cX1_forged 133 = .ok (.pop, 1) := dk_87 (dk_at dksX1_forged_5 17 rfl rfl)
theorem dX1_forged_134 : decode cX1_forged 134 = .ok (.iload 7, 2) := dk_21 7 (dk_at dksX1_forged_5 18 rfl rfl)
theorem dX1_forged_136 : decode cX1_forged 136 = .ok (.istore 4, 2) := dk_54 4 (dk_at dksX1_forged_5 20 rfl rfl)
theorem dX1_forged_138 : decode cX1_forged 138 = .ok (.iinc 5 1, 3) := dk_132 5 1 (dk_at dksX1_forged_6 0 rfl rfl)
theorem dX1_forged_141 : decode cX1_forged 141 = .ok (.goto (-95), 3) := dk_167 255 161 (dk_at dksX1_forged_6 3 rfl rfl)
theorem dX1_forged_144 : decode cX1_forged 144 = .ok (.bipush (-4), 2) := dk_16 252 (dk_at dksX1_forged_6 6 rfl rfl)
theorem dX1_forged_146 : decode cX1_forged 146 = .ok (.ireturn, 1) := dk_172 (dk_at dksX1_forged_6 8 rfl rfl)
abbrev cX1_judge : ByteArray := prog_1_method_57_code
def yX1_judge : MethodName := ⟨RX1, "judge", "(I)I"⟩
def dkwX1_judge_3 : List UInt8 := [182, 0, 207, 132, 4, 1, 167, 255, 208, 16, 252, 172]
abbrev dktX1_judge_3 : List UInt8 := dkwX1_judge_3 ++ []
def dkwX1_judge_2 : List UInt8 := [45, 21, 4, 184, 0, 235, 42, 180, 0, 38, 182, 0, 171, 159, 0, 6, 21, 4, 172, 42, 180, 0, 38, 3]
abbrev dktX1_judge_2 : List UInt8 := dkwX1_judge_2 ++ dktX1_judge_3
def dkwX1_judge_1 : List UInt8 := [182, 0, 167, 3, 54, 4, 21, 4, 45, 184, 0, 246, 162, 0, 45, 45, 21, 4, 184, 0, 249, 154, 0, 22]
abbrev dktX1_judge_1 : List UInt8 := dkwX1_judge_1 ++ dktX1_judge_2
def dkwX1_judge_0 : List UInt8 := [42, 27, 182, 1, 1, 61, 28, 153, 0, 5, 28, 172, 42, 180, 0, 120, 27, 50, 180, 0, 124, 78, 42]
abbrev dktX1_judge_0 : List UInt8 := dkwX1_judge_0 ++ dktX1_judge_1
theorem dksX1_judge_0 : cX1_judge.data.toList.drop 0 = dktX1_judge_0 := by decide +kernel
theorem dksX1_judge_1 : cX1_judge.data.toList.drop 23 = dktX1_judge_1 := dk_seg dksX1_judge_0 23 rfl rfl
theorem dksX1_judge_2 : cX1_judge.data.toList.drop 47 = dktX1_judge_2 := dk_seg dksX1_judge_1 24 rfl rfl
theorem dksX1_judge_3 : cX1_judge.data.toList.drop 71 = dktX1_judge_3 := dk_seg dksX1_judge_2 24 rfl rfl
theorem dX1_judge_0 : decode cX1_judge 0 = .ok (.aload_n 0, 1) := dk_42 (dk_at dksX1_judge_0 0 rfl rfl)
theorem dX1_judge_1 : decode cX1_judge 1 = .ok (.iload_n 1, 1) := dk_27 (dk_at dksX1_judge_0 1 rfl rfl)
theorem dX1_judge_2 : decode cX1_judge 2 = .ok (.invokevirtual 257, 3) := dk_182 1 1 (dk_at dksX1_judge_0 2 rfl rfl)
theorem dX1_judge_5 : decode cX1_judge 5 = .ok (.istore_n 2, 1) := dk_61 (dk_at dksX1_judge_0 5 rfl rfl)
theorem dX1_judge_6 : decode cX1_judge 6 = .ok (.iload_n 2, 1) := dk_28 (dk_at dksX1_judge_0 6 rfl rfl)
theorem dX1_judge_7 : decode cX1_judge 7 = .ok (.ifCond .eq 5, 3) := dk_153 0 5 (dk_at dksX1_judge_0 7 rfl rfl)
theorem dX1_judge_10 : decode cX1_judge 10 = .ok (.iload_n 2, 1) := dk_28 (dk_at dksX1_judge_0 10 rfl rfl)
theorem dX1_judge_11 : decode cX1_judge 11 = .ok (.ireturn, 1) := dk_172 (dk_at dksX1_judge_0 11 rfl rfl)
theorem dX1_judge_12 : decode cX1_judge 12 = .ok (.aload_n 0, 1) := dk_42 (dk_at dksX1_judge_0 12 rfl rfl)
theorem dX1_judge_13 : decode cX1_judge 13 = .ok (.getfield 120, 3) := dk_180 0 120 (dk_at dksX1_judge_0 13 rfl rfl)
theorem dX1_judge_16 : decode cX1_judge 16 = .ok (.iload_n 1, 1) := dk_27 (dk_at dksX1_judge_0 16 rfl rfl)
theorem dX1_judge_17 : decode cX1_judge 17 = .ok (.aaload, 1) := dk_50 (dk_at dksX1_judge_0 17 rfl rfl)
theorem dX1_judge_18 : decode cX1_judge 18 = .ok (.getfield 124, 3) := dk_180 0 124 (dk_at dksX1_judge_0 18 rfl rfl)
theorem dX1_judge_21 : decode cX1_judge 21 = .ok (.astore_n 3, 1) := dk_78 (dk_at dksX1_judge_0 21 rfl rfl)
theorem dX1_judge_22 : decode cX1_judge 22 = .ok (.aload_n 0, 1) := dk_42 (dk_at dksX1_judge_0 22 rfl rfl)
theorem dX1_judge_23 : decode cX1_judge 23 = .ok (.invokevirtual 167, 3) := dk_182 0 167 (dk_at dksX1_judge_1 0 rfl rfl)
theorem dX1_judge_26 : decode cX1_judge 26 = .ok (.iconst 0, 1) := dk_3 (dk_at dksX1_judge_1 3 rfl rfl)
theorem dX1_judge_27 : decode cX1_judge 27 = .ok (.istore 4, 2) := dk_54 4 (dk_at dksX1_judge_1 4 rfl rfl)
theorem dX1_judge_29 : decode cX1_judge 29 = .ok (.iload 4, 2) := dk_21 4 (dk_at dksX1_judge_1 6 rfl rfl)
theorem dX1_judge_31 : decode cX1_judge 31 = .ok (.aload_n 3, 1) := dk_45 (dk_at dksX1_judge_1 8 rfl rfl)
theorem dX1_judge_32 : decode cX1_judge 32 = .ok (.invokestatic 246, 3) := dk_184 0 246 (dk_at dksX1_judge_1 9 rfl rfl)
theorem dX1_judge_35 : decode cX1_judge 35 = .ok (.if_icmp .ge 45, 3) := dk_162 0 45 (dk_at dksX1_judge_1 12 rfl rfl)
theorem dX1_judge_38 : decode cX1_judge 38 = .ok (.aload_n 3, 1) := dk_45 (dk_at dksX1_judge_1 15 rfl rfl)
theorem dX1_judge_39 : decode cX1_judge 39 = .ok (.iload 4, 2) := dk_21 4 (dk_at dksX1_judge_1 16 rfl rfl)
theorem dX1_judge_41 : decode cX1_judge 41 = .ok (.invokestatic 249, 3) := dk_184 0 249 (dk_at dksX1_judge_1 18 rfl rfl)
theorem dX1_judge_44 : decode cX1_judge 44 = .ok (.ifCond .ne 22, 3) := dk_154 0 22 (dk_at dksX1_judge_1 21 rfl rfl)
theorem dX1_judge_47 : decode cX1_judge 47 = .ok (.aload_n 3, 1) := dk_45 (dk_at dksX1_judge_2 0 rfl rfl)
theorem dX1_judge_48 : decode cX1_judge 48 = .ok (.iload 4, 2) := dk_21 4 (dk_at dksX1_judge_2 1 rfl rfl)
theorem dX1_judge_50 : decode cX1_judge 50 = .ok (.invokestatic 235, 3) := dk_184 0 235 (dk_at dksX1_judge_2 3 rfl rfl)
theorem dX1_judge_53 : decode cX1_judge 53 = .ok (.aload_n 0, 1) := dk_42 (dk_at dksX1_judge_2 6 rfl rfl)
theorem dX1_judge_54 : decode cX1_judge 54 = .ok (.getfield 38, 3) := dk_180 0 38 (dk_at dksX1_judge_2 7 rfl rfl)
theorem dX1_judge_57 : decode cX1_judge 57 = .ok (.invokevirtual 171, 3) := dk_182 0 171 (dk_at dksX1_judge_2 10 rfl rfl)
theorem dX1_judge_60 : decode cX1_judge 60 = .ok (.if_icmp .eq 6, 3) := dk_159 0 6 (dk_at dksX1_judge_2 13 rfl rfl)
theorem dX1_judge_63 : decode cX1_judge 63 = .ok (.iload 4, 2) := dk_21 4 (dk_at dksX1_judge_2 16 rfl rfl)
theorem dX1_judge_65 : decode cX1_judge 65 = .ok (.ireturn, 1) := dk_172 (dk_at dksX1_judge_2 18 rfl rfl)
theorem dX1_judge_66 : decode cX1_judge 66 = .ok (.aload_n 0, 1) := dk_42 (dk_at dksX1_judge_2 19 rfl rfl)
theorem dX1_judge_67 : decode cX1_judge 67 = .ok (.getfield 38, 3) := dk_180 0 38 (dk_at dksX1_judge_2 20 rfl rfl)
theorem dX1_judge_70 : decode cX1_judge 70 = .ok (.iconst 0, 1) := dk_3 (dk_at dksX1_judge_2 23 rfl rfl)
theorem dX1_judge_71 : decode cX1_judge 71 = .ok (.invokevirtual 207, 3) := dk_182 0 207 (dk_at dksX1_judge_3 0 rfl rfl)
theorem dX1_judge_74 : decode cX1_judge 74 = .ok (.iinc 4 1, 3) := dk_132 4 1 (dk_at dksX1_judge_3 3 rfl rfl)
theorem dX1_judge_77 : decode cX1_judge 77 = .ok (.goto (-48), 3) := dk_167 255 208 (dk_at dksX1_judge_3 6 rfl rfl)
theorem dX1_judge_80 : decode cX1_judge 80 = .ok (.bipush (-4), 2) := dk_16 252 (dk_at dksX1_judge_3 9 rfl rfl)
theorem dX1_judge_82 : decode cX1_judge 82 = .ok (.ireturn, 1) := dk_172 (dk_at dksX1_judge_3 11 rfl rfl)
abbrev cX1_lands : ByteArray := prog_1_method_59_code
def yX1_lands : MethodName := ⟨RX1, "lands", "(III)I"⟩
def dkwX1_lands_5 : List UInt8 := [167, 255, 173, 29, 154, 0, 8, 21, 4, 167, 0, 5, 21, 5, 172]
abbrev dktX1_lands_5 : List UInt8 := dkwX1_lands_5 ++ []
def dkwX1_lands_4 : List UInt8 := [180, 0, 38, 182, 0, 171, 96, 54, 4, 21, 5, 42, 180, 0, 38, 182, 1, 37, 96, 54, 5, 132, 6, 1]
abbrev dktX1_lands_4 : List UInt8 := dkwX1_lands_4 ++ dktX1_lands_5
def dkwX1_lands_3 : List UInt8 := [16, 21, 182, 1, 34, 79, 132, 7, 1, 167, 255, 225, 42, 180, 0, 38, 16, 10, 182, 0, 85, 21, 4, 42]
abbrev dktX1_lands_3 : List UInt8 := dkwX1_lands_3 ++ dktX1_lands_4
def dkwX1_lands_2 : List UInt8 := [54, 7, 21, 7, 42, 180, 0, 38, 180, 0, 42, 162, 0, 25, 42, 180, 0, 38, 180, 0, 155, 21, 7, 42]
abbrev dktX1_lands_2 : List UInt8 := dkwX1_lands_2 ++ dktX1_lands_3
def dkwX1_lands_1 : List UInt8 := [181, 1, 28, 3, 54, 4, 3, 54, 5, 3, 54, 6, 21, 6, 27, 162, 0, 83, 42, 182, 0, 167, 3]
abbrev dktX1_lands_1 : List UInt8 := dkwX1_lands_1 ++ dktX1_lands_2
def dkwX1_lands_0 : List UInt8 := [27, 4, 16, 20, 184, 0, 30, 153, 0, 12, 29, 3, 4, 184, 0, 30, 154, 0, 5, 2, 172, 42, 28]
abbrev dktX1_lands_0 : List UInt8 := dkwX1_lands_0 ++ dktX1_lands_1
theorem dksX1_lands_0 : cX1_lands.data.toList.drop 0 = dktX1_lands_0 := by decide +kernel
theorem dksX1_lands_1 : cX1_lands.data.toList.drop 23 = dktX1_lands_1 := dk_seg dksX1_lands_0 23 rfl rfl
theorem dksX1_lands_2 : cX1_lands.data.toList.drop 46 = dktX1_lands_2 := dk_seg dksX1_lands_1 23 rfl rfl
theorem dksX1_lands_3 : cX1_lands.data.toList.drop 70 = dktX1_lands_3 := dk_seg dksX1_lands_2 24 rfl rfl
theorem dksX1_lands_4 : cX1_lands.data.toList.drop 94 = dktX1_lands_4 := dk_seg dksX1_lands_3 24 rfl rfl
theorem dksX1_lands_5 : cX1_lands.data.toList.drop 118 = dktX1_lands_5 := dk_seg dksX1_lands_4 24 rfl rfl
theorem dX1_lands_0 : decode cX1_lands 0 = .ok (.iload_n 1, 1) := dk_27 (dk_at dksX1_lands_0 0 rfl rfl)
theorem dX1_lands_1 : decode cX1_lands 1 = .ok (.iconst 1, 1) := dk_4 (dk_at dksX1_lands_0 1 rfl rfl)
theorem dX1_lands_2 : decode cX1_lands 2 = .ok (.bipush 20, 2) := dk_16 20 (dk_at dksX1_lands_0 2 rfl rfl)
theorem dX1_lands_4 : decode cX1_lands 4 = .ok (.invokestatic 30, 3) := dk_184 0 30 (dk_at dksX1_lands_0 4 rfl rfl)
theorem dX1_lands_7 : decode cX1_lands 7 = .ok (.ifCond .eq 12, 3) := dk_153 0 12 (dk_at dksX1_lands_0 7 rfl rfl)
theorem dX1_lands_10 : decode cX1_lands 10 = .ok (.iload_n 3, 1) := dk_29 (dk_at dksX1_lands_0 10 rfl rfl)
theorem dX1_lands_11 : decode cX1_lands 11 = .ok (.iconst 0, 1) := dk_3 (dk_at dksX1_lands_0 11 rfl rfl)
theorem dX1_lands_12 : decode cX1_lands 12 = .ok (.iconst 1, 1) := dk_4 (dk_at dksX1_lands_0 12 rfl rfl)
theorem dX1_lands_13 : decode cX1_lands 13 = .ok (.invokestatic 30, 3) := dk_184 0 30 (dk_at dksX1_lands_0 13 rfl rfl)
theorem dX1_lands_16 : decode cX1_lands 16 = .ok (.ifCond .ne 5, 3) := dk_154 0 5 (dk_at dksX1_lands_0 16 rfl rfl)
theorem dX1_lands_19 : decode cX1_lands 19 = .ok (.iconst (-1), 1) := dk_2 (dk_at dksX1_lands_0 19 rfl rfl)
theorem dX1_lands_20 : decode cX1_lands 20 = .ok (.ireturn, 1) := dk_172 (dk_at dksX1_lands_0 20 rfl rfl)
theorem dX1_lands_21 : decode cX1_lands 21 = .ok (.aload_n 0, 1) := dk_42 (dk_at dksX1_lands_0 21 rfl rfl)
theorem dX1_lands_22 : decode cX1_lands 22 = .ok (.iload_n 2, 1) := dk_28 (dk_at dksX1_lands_0 22 rfl rfl)
theorem dX1_lands_23 : decode cX1_lands 23 = .ok (.putfield 284, 3) := dk_181 1 28 (dk_at dksX1_lands_1 0 rfl rfl)
theorem dX1_lands_26 : decode cX1_lands 26 = .ok (.iconst 0, 1) := dk_3 (dk_at dksX1_lands_1 3 rfl rfl)
theorem dX1_lands_27 : decode cX1_lands 27 = .ok (.istore 4, 2) := dk_54 4 (dk_at dksX1_lands_1 4 rfl rfl)
theorem dX1_lands_29 : decode cX1_lands 29 = .ok (.iconst 0, 1) := dk_3 (dk_at dksX1_lands_1 6 rfl rfl)
theorem dX1_lands_30 : decode cX1_lands 30 = .ok (.istore 5, 2) := dk_54 5 (dk_at dksX1_lands_1 7 rfl rfl)
theorem dX1_lands_32 : decode cX1_lands 32 = .ok (.iconst 0, 1) := dk_3 (dk_at dksX1_lands_1 9 rfl rfl)
theorem dX1_lands_33 : decode cX1_lands 33 = .ok (.istore 6, 2) := dk_54 6 (dk_at dksX1_lands_1 10 rfl rfl)
theorem dX1_lands_35 : decode cX1_lands 35 = .ok (.iload 6, 2) := dk_21 6 (dk_at dksX1_lands_1 12 rfl rfl)
theorem dX1_lands_37 : decode cX1_lands 37 = .ok (.iload_n 1, 1) := dk_27 (dk_at dksX1_lands_1 14 rfl rfl)
theorem dX1_lands_38 : decode cX1_lands 38 = .ok (.if_icmp .ge 83, 3) := dk_162 0 83 (dk_at dksX1_lands_1 15 rfl rfl)
theorem dX1_lands_41 : decode cX1_lands 41 = .ok (.aload_n 0, 1) := dk_42 (dk_at dksX1_lands_1 18 rfl rfl)
theorem dX1_lands_42 : decode cX1_lands 42 = .ok (.invokevirtual 167, 3) := dk_182 0 167 (dk_at dksX1_lands_1 19 rfl rfl)
theorem dX1_lands_45 : decode cX1_lands 45 = .ok (.iconst 0, 1) := dk_3 (dk_at dksX1_lands_1 22 rfl rfl)
theorem dX1_lands_46 : decode cX1_lands 46 = .ok (.istore 7, 2) := dk_54 7 (dk_at dksX1_lands_2 0 rfl rfl)
theorem dX1_lands_48 : decode cX1_lands 48 = .ok (.iload 7, 2) := dk_21 7 (dk_at dksX1_lands_2 2 rfl rfl)
theorem dX1_lands_50 : decode cX1_lands 50 = .ok (.aload_n 0, 1) := dk_42 (dk_at dksX1_lands_2 4 rfl rfl)
theorem dX1_lands_51 : decode cX1_lands 51 = .ok (.getfield 38, 3) := dk_180 0 38 (dk_at dksX1_lands_2 5 rfl rfl)
theorem dX1_lands_54 : decode cX1_lands 54 = .ok (.getfield 42, 3) := dk_180 0 42 (dk_at dksX1_lands_2 8 rfl rfl)
theorem dX1_lands_57 : decode cX1_lands 57 = .ok (.if_icmp .ge 25, 3) := dk_162 0 25 (dk_at dksX1_lands_2 11 rfl rfl)
theorem dX1_lands_60 : decode cX1_lands 60 = .ok (.aload_n 0, 1) := dk_42 (dk_at dksX1_lands_2 14 rfl rfl)
theorem dX1_lands_61 : decode cX1_lands 61 = .ok (.getfield 38, 3) := dk_180 0 38 (dk_at dksX1_lands_2 15 rfl rfl)
theorem dX1_lands_64 : decode cX1_lands 64 = .ok (.getfield 155, 3) := dk_180 0 155 (dk_at dksX1_lands_2 18 rfl rfl)
theorem dX1_lands_67 : decode cX1_lands 67 = .ok (.iload 7, 2) := dk_21 7 (dk_at dksX1_lands_2 21 rfl rfl)
theorem dX1_lands_69 : decode cX1_lands 69 = .ok (.aload_n 0, 1) := dk_42 (dk_at dksX1_lands_2 23 rfl rfl)
theorem dX1_lands_70 : decode cX1_lands 70 = .ok (.bipush 21, 2) := dk_16 21 (dk_at dksX1_lands_3 0 rfl rfl)
theorem dX1_lands_72 : decode cX1_lands 72 = .ok (.invokevirtual 290, 3) := dk_182 1 34 (dk_at dksX1_lands_3 2 rfl rfl)
theorem dX1_lands_75 : decode cX1_lands 75 = .ok (.iastore, 1) := dk_79 (dk_at dksX1_lands_3 5 rfl rfl)
theorem dX1_lands_76 : decode cX1_lands 76 = .ok (.iinc 7 1, 3) := dk_132 7 1 (dk_at dksX1_lands_3 6 rfl rfl)
theorem dX1_lands_79 : decode cX1_lands 79 = .ok (.goto (-31), 3) := dk_167 255 225 (dk_at dksX1_lands_3 9 rfl rfl)
theorem dX1_lands_82 : decode cX1_lands 82 = .ok (.aload_n 0, 1) := dk_42 (dk_at dksX1_lands_3 12 rfl rfl)
theorem dX1_lands_83 : decode cX1_lands 83 = .ok (.getfield 38, 3) := dk_180 0 38 (dk_at dksX1_lands_3 13 rfl rfl)
theorem dX1_lands_86 : decode cX1_lands 86 = .ok (.bipush 10, 2) := dk_16 10 (dk_at dksX1_lands_3 16 rfl rfl)
theorem dX1_lands_88 : decode cX1_lands 88 = .ok (.invokevirtual 85, 3) := dk_182 0 85 (dk_at dksX1_lands_3 18 rfl rfl)
theorem dX1_lands_91 : decode cX1_lands 91 = .ok (.iload 4, 2) := dk_21 4 (dk_at dksX1_lands_3 21 rfl rfl)
theorem dX1_lands_93 : decode cX1_lands 93 = .ok (.aload_n 0, 1) := dk_42 (dk_at dksX1_lands_3 23 rfl rfl)
theorem dX1_lands_94 : decode cX1_lands 94 = .ok (.getfield 38, 3) := dk_180 0 38 (dk_at dksX1_lands_4 0 rfl rfl)
theorem dX1_lands_97 : decode cX1_lands 97 = .ok (.invokevirtual 171, 3) := dk_182 0 171 (dk_at dksX1_lands_4 3 rfl rfl)
theorem dX1_lands_100 : decode cX1_lands 100 = .ok (.iadd, 1) := dk_96 (dk_at dksX1_lands_4 6 rfl rfl)
theorem dX1_lands_101 : decode cX1_lands 101 = .ok (.istore 4, 2) := dk_54 4 (dk_at dksX1_lands_4 7 rfl rfl)
theorem dX1_lands_103 : decode cX1_lands 103 = .ok (.iload 5, 2) := dk_21 5 (dk_at dksX1_lands_4 9 rfl rfl)
theorem dX1_lands_105 : decode cX1_lands 105 = .ok (.aload_n 0, 1) := dk_42 (dk_at dksX1_lands_4 11 rfl rfl)
theorem dX1_lands_106 : decode cX1_lands 106 = .ok (.getfield 38, 3) := dk_180 0 38 (dk_at dksX1_lands_4 12 rfl rfl)
theorem dX1_lands_109 : decode cX1_lands 109 = .ok (.invokevirtual 293, 3) := dk_182 1 37 (dk_at dksX1_lands_4 15 rfl rfl)
theorem dX1_lands_112 : decode cX1_lands 112 = .ok (.iadd, 1) := dk_96 (dk_at dksX1_lands_4 18 rfl rfl)
theorem dX1_lands_113 : decode cX1_lands 113 = .ok (.istore 5, 2) := dk_54 5 (dk_at dksX1_lands_4 19 rfl rfl)
theorem dX1_lands_115 : decode cX1_lands 115 = .ok (.iinc 6 1, 3) := dk_132 6 1 (dk_at dksX1_lands_4 21 rfl rfl)
theorem dX1_lands_118 : decode cX1_lands 118 = .ok (.goto (-83), 3) := dk_167 255 173 (dk_at dksX1_lands_5 0 rfl rfl)
theorem dX1_lands_121 : decode cX1_lands 121 = .ok (.iload_n 3, 1) := dk_29 (dk_at dksX1_lands_5 3 rfl rfl)
theorem dX1_lands_122 : decode cX1_lands 122 = .ok (.ifCond .ne 8, 3) := dk_154 0 8 (dk_at dksX1_lands_5 4 rfl rfl)
theorem dX1_lands_125 : decode cX1_lands 125 = .ok (.iload 4, 2) := dk_21 4 (dk_at dksX1_lands_5 7 rfl rfl)
theorem dX1_lands_127 : decode cX1_lands 127 = .ok (.goto 5, 3) := dk_167 0 5 (dk_at dksX1_lands_5 9 rfl rfl)
theorem dX1_lands_130 : decode cX1_lands 130 = .ok (.iload 5, 2) := dk_21 5 (dk_at dksX1_lands_5 12 rfl rfl)
theorem dX1_lands_132 : decode cX1_lands 132 = .ok (.ireturn, 1) := dk_172 (dk_at dksX1_lands_5 14 rfl rfl)
abbrev cX1_draw : ByteArray := prog_1_method_58_code
def yX1_draw : MethodName := ⟨RX1, "draw", "(I)I"⟩
def dkwX1_draw_1 : List UInt8 := [19, 1, 33, 108, 27, 112, 172]
abbrev dktX1_draw_1 : List UInt8 := dkwX1_draw_1 ++ []
def dkwX1_draw_0 : List UInt8 := [42, 42, 180, 1, 28, 19, 1, 31, 104, 17, 48, 57, 96, 181, 1, 28, 42, 180, 1, 28, 19, 1, 32, 126]
abbrev dktX1_draw_0 : List UInt8 := dkwX1_draw_0 ++ dktX1_draw_1
theorem dksX1_draw_0 : cX1_draw.data.toList.drop 0 = dktX1_draw_0 := by decide +kernel
theorem dksX1_draw_1 : cX1_draw.data.toList.drop 24 = dktX1_draw_1 := dk_seg dksX1_draw_0 24 rfl rfl
theorem dX1_draw_0 : decode cX1_draw 0 = .ok (.aload_n 0, 1) := dk_42 (dk_at dksX1_draw_0 0 rfl rfl)
theorem dX1_draw_1 : decode cX1_draw 1 = .ok (.aload_n 0, 1) := dk_42 (dk_at dksX1_draw_0 1 rfl rfl)
theorem dX1_draw_2 : decode cX1_draw 2 = .ok (.getfield 284, 3) := dk_180 1 28 (dk_at dksX1_draw_0 2 rfl rfl)
theorem dX1_draw_5 : decode cX1_draw 5 = .ok (.ldc_w 287, 3) := dk_19 1 31 (dk_at dksX1_draw_0 5 rfl rfl)
theorem dX1_draw_8 : decode cX1_draw 8 = .ok (.imul, 1) := dk_104 (dk_at dksX1_draw_0 8 rfl rfl)
theorem dX1_draw_9 : decode cX1_draw 9 = .ok (.sipush 12345, 3) := dk_17 48 57 (dk_at dksX1_draw_0 9 rfl rfl)
theorem dX1_draw_12 : decode cX1_draw 12 = .ok (.iadd, 1) := dk_96 (dk_at dksX1_draw_0 12 rfl rfl)
theorem dX1_draw_13 : decode cX1_draw 13 = .ok (.putfield 284, 3) := dk_181 1 28 (dk_at dksX1_draw_0 13 rfl rfl)
theorem dX1_draw_16 : decode cX1_draw 16 = .ok (.aload_n 0, 1) := dk_42 (dk_at dksX1_draw_0 16 rfl rfl)
theorem dX1_draw_17 : decode cX1_draw 17 = .ok (.getfield 284, 3) := dk_180 1 28 (dk_at dksX1_draw_0 17 rfl rfl)
theorem dX1_draw_20 : decode cX1_draw 20 = .ok (.ldc_w 288, 3) := dk_19 1 32 (dk_at dksX1_draw_0 20 rfl rfl)
theorem dX1_draw_23 : decode cX1_draw 23 = .ok (.iand, 1) := dk_126 (dk_at dksX1_draw_0 23 rfl rfl)
theorem dX1_draw_24 : decode cX1_draw 24 = .ok (.ldc_w 289, 3) := dk_19 1 33 (dk_at dksX1_draw_1 0 rfl rfl)
theorem dX1_draw_27 : decode cX1_draw 27 = .ok (.idiv, 1) := dk_108 (dk_at dksX1_draw_1 3 rfl rfl)
theorem dX1_draw_28 : decode cX1_draw 28 = .ok (.iload_n 1, 1) := dk_27 (dk_at dksX1_draw_1 4 rfl rfl)
theorem dX1_draw_29 : decode cX1_draw 29 = .ok (.irem, 1) := dk_112 (dk_at dksX1_draw_1 5 rfl rfl)
theorem dX1_draw_30 : decode cX1_draw 30 = .ok (.ireturn, 1) := dk_172 (dk_at dksX1_draw_1 6 rfl rfl)
abbrev cX1_image : ByteArray := prog_1_method_60_code
def yX1_image : MethodName := ⟨RX1, "image", "()I"⟩
def dkwX1_image_0 : List UInt8 := [42, 180, 1, 40, 42, 180, 0, 101, 182, 0, 104, 42, 4, 181, 1, 43, 42, 180, 0, 101, 180, 0, 76, 172]
abbrev dktX1_image_0 : List UInt8 := dkwX1_image_0 ++ []
theorem dksX1_image_0 : cX1_image.data.toList.drop 0 = dktX1_image_0 := by decide +kernel
theorem dX1_image_0 : decode cX1_image 0 = .ok (.aload_n 0, 1) := dk_42 (dk_at dksX1_image_0 0 rfl rfl)
theorem dX1_image_1 : decode cX1_image 1 = .ok (.getfield 296, 3) := dk_180 1 40 (dk_at dksX1_image_0 1 rfl rfl)
theorem dX1_image_4 : decode cX1_image 4 = .ok (.aload_n 0, 1) := dk_42 (dk_at dksX1_image_0 4 rfl rfl)
theorem dX1_image_5 : decode cX1_image 5 = .ok (.getfield 101, 3) := dk_180 0 101 (dk_at dksX1_image_0 5 rfl rfl)
theorem dX1_image_8 : decode cX1_image 8 = .ok (.invokevirtual 104, 3) := dk_182 0 104 (dk_at dksX1_image_0 8 rfl rfl)
theorem dX1_image_11 : decode cX1_image 11 = .ok (.aload_n 0, 1) := dk_42 (dk_at dksX1_image_0 11 rfl rfl)
theorem dX1_image_12 : decode cX1_image 12 = .ok (.iconst 1, 1) := dk_4 (dk_at dksX1_image_0 12 rfl rfl)
theorem dX1_image_13 : decode cX1_image 13 = .ok (.putfield 299, 3) := dk_181 1 43 (dk_at dksX1_image_0 13 rfl rfl)
theorem dX1_image_16 : decode cX1_image 16 = .ok (.aload_n 0, 1) := dk_42 (dk_at dksX1_image_0 16 rfl rfl)
theorem dX1_image_17 : decode cX1_image 17 = .ok (.getfield 101, 3) := dk_180 0 101 (dk_at dksX1_image_0 17 rfl rfl)
theorem dX1_image_20 : decode cX1_image 20 = .ok (.getfield 76, 3) := dk_180 0 76 (dk_at dksX1_image_0 20 rfl rfl)
theorem dX1_image_23 : decode cX1_image 23 = .ok (.ireturn, 1) := dk_172 (dk_at dksX1_image_0 23 rfl rfl)
abbrev cX1_restore : ByteArray := prog_1_method_61_code
def yX1_restore : MethodName := ⟨RX1, "restore", "()I"⟩
def dkwX1_restore_1 : List UInt8 := [180, 0, 101, 180, 0, 76, 172]
abbrev dktX1_restore_1 : List UInt8 := dkwX1_restore_1 ++ []
def dkwX1_restore_0 : List UInt8 := [42, 180, 1, 43, 154, 0, 6, 16, 253, 172, 42, 180, 0, 101, 42, 180, 1, 40, 182, 0, 104, 42]
abbrev dktX1_restore_0 : List UInt8 := dkwX1_restore_0 ++ dktX1_restore_1
theorem dksX1_restore_0 : cX1_restore.data.toList.drop 0 = dktX1_restore_0 := by decide +kernel
theorem dksX1_restore_1 : cX1_restore.data.toList.drop 22 = dktX1_restore_1 := dk_seg dksX1_restore_0 22 rfl rfl
theorem dX1_restore_0 : decode cX1_restore 0 = .ok (.aload_n 0, 1) := dk_42 (dk_at dksX1_restore_0 0 rfl rfl)
theorem dX1_restore_1 : decode cX1_restore 1 = .ok (.getfield 299, 3) := dk_180 1 43 (dk_at dksX1_restore_0 1 rfl rfl)
theorem dX1_restore_4 : decode cX1_restore 4 = .ok (.ifCond .ne 6, 3) := dk_154 0 6 (dk_at dksX1_restore_0 4 rfl rfl)
theorem dX1_restore_7 : decode cX1_restore 7 = .ok (.bipush (-3), 2) := dk_16 253 (dk_at dksX1_restore_0 7 rfl rfl)
theorem dX1_restore_9 : decode cX1_restore 9 = .ok (.ireturn, 1) := dk_172 (dk_at dksX1_restore_0 9 rfl rfl)
theorem dX1_restore_10 : decode cX1_restore 10 = .ok (.aload_n 0, 1) := dk_42 (dk_at dksX1_restore_0 10 rfl rfl)
theorem dX1_restore_11 : decode cX1_restore 11 = .ok (.getfield 101, 3) := dk_180 0 101 (dk_at dksX1_restore_0 11 rfl rfl)
theorem dX1_restore_14 : decode cX1_restore 14 = .ok (.aload_n 0, 1) := dk_42 (dk_at dksX1_restore_0 14 rfl rfl)
theorem dX1_restore_15 : decode cX1_restore 15 = .ok (.getfield 296, 3) := dk_180 1 40 (dk_at dksX1_restore_0 15 rfl rfl)
theorem dX1_restore_18 : decode cX1_restore 18 = .ok (.invokevirtual 104, 3) := dk_182 0 104 (dk_at dksX1_restore_0 18 rfl rfl)
theorem dX1_restore_21 : decode cX1_restore 21 = .ok (.aload_n 0, 1) := dk_42 (dk_at dksX1_restore_0 21 rfl rfl)
theorem dX1_restore_22 : decode cX1_restore 22 = .ok (.getfield 101, 3) := dk_180 0 101 (dk_at dksX1_restore_1 0 rfl rfl)
theorem dX1_restore_25 : decode cX1_restore 25 = .ok (.getfield 76, 3) := dk_180 0 76 (dk_at dksX1_restore_1 3 rfl rfl)
theorem dX1_restore_28 : decode cX1_restore 28 = .ok (.ireturn, 1) := dk_172 (dk_at dksX1_restore_1 6 rfl rfl)
abbrev cX1_count : ByteArray := prog_1_method_62_code
def yX1_count : MethodName := ⟨RX1, "count", "(I)I"⟩
def dkwX1_count_5 : List UInt8 := [172, 2, 172]
abbrev dktX1_count_5 : List UInt8 := dkwX1_count_5 ++ []
def dkwX1_count_4 : List UInt8 := [180, 0, 42, 162, 0, 20, 28, 42, 180, 0, 101, 29, 182, 0, 161, 96, 61, 132, 3, 1, 167, 255, 231, 28]
abbrev dktX1_count_4 : List UInt8 := dkwX1_count_4 ++ dktX1_count_5
def dkwX1_count_3 : List UInt8 := [42, 180, 0, 101, 182, 0, 171, 172, 42, 180, 0, 101, 182, 1, 37, 172, 3, 62, 29, 42, 180, 0, 101]
abbrev dktX1_count_3 : List UInt8 := dkwX1_count_3 ++ dktX1_count_4
def dkwX1_count_2 : List UInt8 := [42, 180, 0, 101, 180, 0, 42, 172, 42, 180, 0, 101, 180, 0, 82, 172, 42, 180, 0, 101, 180, 0, 76, 172]
abbrev dktX1_count_2 : List UInt8 := dkwX1_count_2 ++ dktX1_count_3
def dkwX1_count_1 : List UInt8 := [170, 0, 0, 0, 109, 0, 0, 0, 0, 0, 0, 0, 5, 0, 0, 0, 37, 0, 0, 0, 45, 0, 0, 0, 53, 0, 0, 0, 61, 0, 0, 0, 69, 0, 0, 0, 77]
abbrev dktX1_count_1 : List UInt8 := dkwX1_count_1 ++ dktX1_count_2
def dkwX1_count_0 : List UInt8 := [3, 61, 27]
abbrev dktX1_count_0 : List UInt8 := dkwX1_count_0 ++ dktX1_count_1
theorem dksX1_count_0 : cX1_count.data.toList.drop 0 = dktX1_count_0 := by decide +kernel
theorem dksX1_count_1 : cX1_count.data.toList.drop 3 = dktX1_count_1 := dk_seg dksX1_count_0 3 rfl rfl
theorem dksX1_count_2 : cX1_count.data.toList.drop 40 = dktX1_count_2 := dk_seg dksX1_count_1 37 rfl rfl
theorem dksX1_count_3 : cX1_count.data.toList.drop 64 = dktX1_count_3 := dk_seg dksX1_count_2 24 rfl rfl
theorem dksX1_count_4 : cX1_count.data.toList.drop 87 = dktX1_count_4 := dk_seg dksX1_count_3 23 rfl rfl
theorem dksX1_count_5 : cX1_count.data.toList.drop 111 = dktX1_count_5 := dk_seg dksX1_count_4 24 rfl rfl
theorem dX1_count_0 : decode cX1_count 0 = .ok (.iconst 0, 1) := dk_3 (dk_at dksX1_count_0 0 rfl rfl)
theorem dX1_count_1 : decode cX1_count 1 = .ok (.istore_n 2, 1) := dk_61 (dk_at dksX1_count_0 1 rfl rfl)
theorem dX1_count_2 : decode cX1_count 2 = .ok (.iload_n 1, 1) := dk_27 (dk_at dksX1_count_0 2 rfl rfl)
theorem dX1_count_3 : decode cX1_count 3 = .ok (.tableswitch 109 0 5 #[37, 45, 53, 61, 69, 77], 37) := by decide +kernel
theorem dX1_count_40 : decode cX1_count 40 = .ok (.aload_n 0, 1) := dk_42 (dk_at dksX1_count_2 0 rfl rfl)
theorem dX1_count_41 : decode cX1_count 41 = .ok (.getfield 101, 3) := dk_180 0 101 (dk_at dksX1_count_2 1 rfl rfl)
theorem dX1_count_44 : decode cX1_count 44 = .ok (.getfield 42, 3) := dk_180 0 42 (dk_at dksX1_count_2 4 rfl rfl)
theorem dX1_count_47 : decode cX1_count 47 = .ok (.ireturn, 1) := dk_172 (dk_at dksX1_count_2 7 rfl rfl)
theorem dX1_count_48 : decode cX1_count 48 = .ok (.aload_n 0, 1) := dk_42 (dk_at dksX1_count_2 8 rfl rfl)
theorem dX1_count_49 : decode cX1_count 49 = .ok (.getfield 101, 3) := dk_180 0 101 (dk_at dksX1_count_2 9 rfl rfl)
theorem dX1_count_52 : decode cX1_count 52 = .ok (.getfield 82, 3) := dk_180 0 82 (dk_at dksX1_count_2 12 rfl rfl)
theorem dX1_count_55 : decode cX1_count 55 = .ok (.ireturn, 1) := dk_172 (dk_at dksX1_count_2 15 rfl rfl)
theorem dX1_count_56 : decode cX1_count 56 = .ok (.aload_n 0, 1) := dk_42 (dk_at dksX1_count_2 16 rfl rfl)
theorem dX1_count_57 : decode cX1_count 57 = .ok (.getfield 101, 3) := dk_180 0 101 (dk_at dksX1_count_2 17 rfl rfl)
theorem dX1_count_60 : decode cX1_count 60 = .ok (.getfield 76, 3) := dk_180 0 76 (dk_at dksX1_count_2 20 rfl rfl)
theorem dX1_count_63 : decode cX1_count 63 = .ok (.ireturn, 1) := dk_172 (dk_at dksX1_count_2 23 rfl rfl)
theorem dX1_count_64 : decode cX1_count 64 = .ok (.aload_n 0, 1) := dk_42 (dk_at dksX1_count_3 0 rfl rfl)
theorem dX1_count_65 : decode cX1_count 65 = .ok (.getfield 101, 3) := dk_180 0 101 (dk_at dksX1_count_3 1 rfl rfl)
theorem dX1_count_68 : decode cX1_count 68 = .ok (.invokevirtual 171, 3) := dk_182 0 171 (dk_at dksX1_count_3 4 rfl rfl)
theorem dX1_count_71 : decode cX1_count 71 = .ok (.ireturn, 1) := dk_172 (dk_at dksX1_count_3 7 rfl rfl)
theorem dX1_count_72 : decode cX1_count 72 = .ok (.aload_n 0, 1) := dk_42 (dk_at dksX1_count_3 8 rfl rfl)
theorem dX1_count_73 : decode cX1_count 73 = .ok (.getfield 101, 3) := dk_180 0 101 (dk_at dksX1_count_3 9 rfl rfl)
theorem dX1_count_76 : decode cX1_count 76 = .ok (.invokevirtual 293, 3) := dk_182 1 37 (dk_at dksX1_count_3 12 rfl rfl)
theorem dX1_count_79 : decode cX1_count 79 = .ok (.ireturn, 1) := dk_172 (dk_at dksX1_count_3 15 rfl rfl)
theorem dX1_count_80 : decode cX1_count 80 = .ok (.iconst 0, 1) := dk_3 (dk_at dksX1_count_3 16 rfl rfl)
theorem dX1_count_81 : decode cX1_count 81 = .ok (.istore_n 3, 1) := dk_62 (dk_at dksX1_count_3 17 rfl rfl)
theorem dX1_count_82 : decode cX1_count 82 = .ok (.iload_n 3, 1) := dk_29 (dk_at dksX1_count_3 18 rfl rfl)
theorem dX1_count_83 : decode cX1_count 83 = .ok (.aload_n 0, 1) := dk_42 (dk_at dksX1_count_3 19 rfl rfl)
theorem dX1_count_84 : decode cX1_count 84 = .ok (.getfield 101, 3) := dk_180 0 101 (dk_at dksX1_count_3 20 rfl rfl)
theorem dX1_count_87 : decode cX1_count 87 = .ok (.getfield 42, 3) := dk_180 0 42 (dk_at dksX1_count_4 0 rfl rfl)
theorem dX1_count_90 : decode cX1_count 90 = .ok (.if_icmp .ge 20, 3) := dk_162 0 20 (dk_at dksX1_count_4 3 rfl rfl)
theorem dX1_count_93 : decode cX1_count 93 = .ok (.iload_n 2, 1) := dk_28 (dk_at dksX1_count_4 6 rfl rfl)
theorem dX1_count_94 : decode cX1_count 94 = .ok (.aload_n 0, 1) := dk_42 (dk_at dksX1_count_4 7 rfl rfl)
theorem dX1_count_95 : decode cX1_count 95 = .ok (.getfield 101, 3) := dk_180 0 101 (dk_at dksX1_count_4 8 rfl rfl)
theorem dX1_count_98 : decode cX1_count 98 = .ok (.iload_n 3, 1) := dk_29 (dk_at dksX1_count_4 11 rfl rfl)
theorem dX1_count_99 : decode cX1_count 99 = .ok (.invokevirtual 161, 3) := dk_182 0 161 (dk_at dksX1_count_4 12 rfl rfl)
theorem dX1_count_102 : decode cX1_count 102 = .ok (.iadd, 1) := dk_96 (dk_at dksX1_count_4 15 rfl rfl)
theorem dX1_count_103 : decode cX1_count 103 = .ok (.istore_n 2, 1) := dk_61 (dk_at dksX1_count_4 16 rfl rfl)
theorem dX1_count_104 : decode cX1_count 104 = .ok (.iinc 3 1, 3) := dk_132 3 1 (dk_at dksX1_count_4 17 rfl rfl)
theorem dX1_count_107 : decode cX1_count 107 = .ok (.goto (-25), 3) := dk_167 255 231 (dk_at dksX1_count_4 20 rfl rfl)
theorem dX1_count_110 : decode cX1_count 110 = .ok (.iload_n 2, 1) := dk_28 (dk_at dksX1_count_4 23 rfl rfl)
theorem dX1_count_111 : decode cX1_count 111 = .ok (.ireturn, 1) := dk_172 (dk_at dksX1_count_5 0 rfl rfl)
theorem dX1_count_112 : decode cX1_count 112 = .ok (.iconst (-1), 1) := dk_2 (dk_at dksX1_count_5 1 rfl rfl)
theorem dX1_count_113 : decode cX1_count 113 = .ok (.ireturn, 1) := dk_172 (dk_at dksX1_count_5 2 rfl rfl)
abbrev cX1_init : ByteArray := prog_1_method_63_code
def yX1_init : MethodName := ⟨RX1, "<init>", "()V"⟩
def dkwX1_init_4 : List UInt8 := [163, 0, 22, 42, 180, 0, 191, 27, 187, 0, 43, 89, 183, 1, 51, 83, 132, 1, 1, 167, 255, 235, 177]
abbrev dktX1_init_4 : List UInt8 := dkwX1_init_4 ++ []
def dkwX1_init_3 : List UInt8 := [42, 180, 0, 120, 27, 187, 0, 125, 89, 183, 1, 52, 83, 132, 1, 1, 167, 255, 234, 3, 60, 27, 6]
abbrev dktX1_init_3 : List UInt8 := dkwX1_init_3 ++ dktX1_init_4
def dkwX1_init_2 : List UInt8 := [7, 189, 0, 43, 181, 0, 191, 42, 16, 8, 189, 0, 125, 181, 0, 120, 3, 60, 27, 16, 8, 162, 0, 22]
abbrev dktX1_init_2 : List UInt8 := dkwX1_init_2 ++ dktX1_init_3
def dkwX1_init_1 : List UInt8 := [181, 1, 40, 42, 187, 0, 43, 89, 183, 1, 51, 181, 0, 38, 42, 16, 100, 189, 0, 57, 181, 0, 93, 42]
abbrev dktX1_init_1 : List UInt8 := dkwX1_init_1 ++ dktX1_init_2
def dkwX1_init_0 : List UInt8 := [42, 183, 1, 47, 42, 187, 0, 43, 89, 183, 1, 51, 181, 0, 101, 42, 187, 0, 43, 89, 183, 1, 51]
abbrev dktX1_init_0 : List UInt8 := dkwX1_init_0 ++ dktX1_init_1
theorem dksX1_init_0 : cX1_init.data.toList.drop 0 = dktX1_init_0 := by decide +kernel
theorem dksX1_init_1 : cX1_init.data.toList.drop 23 = dktX1_init_1 := dk_seg dksX1_init_0 23 rfl rfl
theorem dksX1_init_2 : cX1_init.data.toList.drop 47 = dktX1_init_2 := dk_seg dksX1_init_1 24 rfl rfl
theorem dksX1_init_3 : cX1_init.data.toList.drop 71 = dktX1_init_3 := dk_seg dksX1_init_2 24 rfl rfl
theorem dksX1_init_4 : cX1_init.data.toList.drop 94 = dktX1_init_4 := dk_seg dksX1_init_3 23 rfl rfl
theorem dX1_init_0 : decode cX1_init 0 = .ok (.aload_n 0, 1) := dk_42 (dk_at dksX1_init_0 0 rfl rfl)
theorem dX1_init_1 : decode cX1_init 1 = .ok (.invokespecial 303, 3) := dk_183 1 47 (dk_at dksX1_init_0 1 rfl rfl)
theorem dX1_init_4 : decode cX1_init 4 = .ok (.aload_n 0, 1) := dk_42 (dk_at dksX1_init_0 4 rfl rfl)
theorem dX1_init_5 : decode cX1_init 5 = .ok (.new 43, 3) := dk_187 0 43 (dk_at dksX1_init_0 5 rfl rfl)
theorem dX1_init_8 : decode cX1_init 8 = .ok (.dup, 1) := dk_89 (dk_at dksX1_init_0 8 rfl rfl)
theorem dX1_init_9 : decode cX1_init 9 = .ok (.invokespecial 307, 3) := dk_183 1 51 (dk_at dksX1_init_0 9 rfl rfl)
theorem dX1_init_12 : decode cX1_init 12 = .ok (.putfield 101, 3) := dk_181 0 101 (dk_at dksX1_init_0 12 rfl rfl)
theorem dX1_init_15 : decode cX1_init 15 = .ok (.aload_n 0, 1) := dk_42 (dk_at dksX1_init_0 15 rfl rfl)
theorem dX1_init_16 : decode cX1_init 16 = .ok (.new 43, 3) := dk_187 0 43 (dk_at dksX1_init_0 16 rfl rfl)
theorem dX1_init_19 : decode cX1_init 19 = .ok (.dup, 1) := dk_89 (dk_at dksX1_init_0 19 rfl rfl)
theorem dX1_init_20 : decode cX1_init 20 = .ok (.invokespecial 307, 3) := dk_183 1 51 (dk_at dksX1_init_0 20 rfl rfl)
theorem dX1_init_23 : decode cX1_init 23 = .ok (.putfield 296, 3) := dk_181 1 40 (dk_at dksX1_init_1 0 rfl rfl)
theorem dX1_init_26 : decode cX1_init 26 = .ok (.aload_n 0, 1) := dk_42 (dk_at dksX1_init_1 3 rfl rfl)
theorem dX1_init_27 : decode cX1_init 27 = .ok (.new 43, 3) := dk_187 0 43 (dk_at dksX1_init_1 4 rfl rfl)
theorem dX1_init_30 : decode cX1_init 30 = .ok (.dup, 1) := dk_89 (dk_at dksX1_init_1 7 rfl rfl)
theorem dX1_init_31 : decode cX1_init 31 = .ok (.invokespecial 307, 3) := dk_183 1 51 (dk_at dksX1_init_1 8 rfl rfl)
theorem dX1_init_34 : decode cX1_init 34 = .ok (.putfield 38, 3) := dk_181 0 38 (dk_at dksX1_init_1 11 rfl rfl)
theorem dX1_init_37 : decode cX1_init 37 = .ok (.aload_n 0, 1) := dk_42 (dk_at dksX1_init_1 14 rfl rfl)
theorem dX1_init_38 : decode cX1_init 38 = .ok (.bipush 100, 2) := dk_16 100 (dk_at dksX1_init_1 15 rfl rfl)
theorem dX1_init_40 : decode cX1_init 40 = .ok (.anewarray 57, 3) := dk_189 0 57 (dk_at dksX1_init_1 17 rfl rfl)
theorem dX1_init_43 : decode cX1_init 43 = .ok (.putfield 93, 3) := dk_181 0 93 (dk_at dksX1_init_1 20 rfl rfl)
theorem dX1_init_46 : decode cX1_init 46 = .ok (.aload_n 0, 1) := dk_42 (dk_at dksX1_init_1 23 rfl rfl)
theorem dX1_init_47 : decode cX1_init 47 = .ok (.iconst 4, 1) := dk_7 (dk_at dksX1_init_2 0 rfl rfl)
theorem dX1_init_48 : decode cX1_init 48 = .ok (.anewarray 43, 3) := dk_189 0 43 (dk_at dksX1_init_2 1 rfl rfl)
theorem dX1_init_51 : decode cX1_init 51 = .ok (.putfield 191, 3) := dk_181 0 191 (dk_at dksX1_init_2 4 rfl rfl)
theorem dX1_init_54 : decode cX1_init 54 = .ok (.aload_n 0, 1) := dk_42 (dk_at dksX1_init_2 7 rfl rfl)
theorem dX1_init_55 : decode cX1_init 55 = .ok (.bipush 8, 2) := dk_16 8 (dk_at dksX1_init_2 8 rfl rfl)
theorem dX1_init_57 : decode cX1_init 57 = .ok (.anewarray 125, 3) := dk_189 0 125 (dk_at dksX1_init_2 10 rfl rfl)
theorem dX1_init_60 : decode cX1_init 60 = .ok (.putfield 120, 3) := dk_181 0 120 (dk_at dksX1_init_2 13 rfl rfl)
theorem dX1_init_63 : decode cX1_init 63 = .ok (.iconst 0, 1) := dk_3 (dk_at dksX1_init_2 16 rfl rfl)
theorem dX1_init_64 : decode cX1_init 64 = .ok (.istore_n 1, 1) := dk_60 (dk_at dksX1_init_2 17 rfl rfl)
theorem dX1_init_65 : decode cX1_init 65 = .ok (.iload_n 1, 1) := dk_27 (dk_at dksX1_init_2 18 rfl rfl)
theorem dX1_init_66 : decode cX1_init 66 = .ok (.bipush 8, 2) := dk_16 8 (dk_at dksX1_init_2 19 rfl rfl)
theorem dX1_init_68 : decode cX1_init 68 = .ok (.if_icmp .ge 22, 3) := dk_162 0 22 (dk_at dksX1_init_2 21 rfl rfl)
theorem dX1_init_71 : decode cX1_init 71 = .ok (.aload_n 0, 1) := dk_42 (dk_at dksX1_init_3 0 rfl rfl)
theorem dX1_init_72 : decode cX1_init 72 = .ok (.getfield 120, 3) := dk_180 0 120 (dk_at dksX1_init_3 1 rfl rfl)
theorem dX1_init_75 : decode cX1_init 75 = .ok (.iload_n 1, 1) := dk_27 (dk_at dksX1_init_3 4 rfl rfl)
theorem dX1_init_76 : decode cX1_init 76 = .ok (.new 125, 3) := dk_187 0 125 (dk_at dksX1_init_3 5 rfl rfl)
theorem dX1_init_79 : decode cX1_init 79 = .ok (.dup, 1) := dk_89 (dk_at dksX1_init_3 8 rfl rfl)
theorem dX1_init_80 : decode cX1_init 80 = .ok (.invokespecial 308, 3) := dk_183 1 52 (dk_at dksX1_init_3 9 rfl rfl)
theorem dX1_init_83 : decode cX1_init 83 = .ok (.aastore, 1) := dk_83 (dk_at dksX1_init_3 12 rfl rfl)
theorem dX1_init_84 : decode cX1_init 84 = .ok (.iinc 1 1, 3) := dk_132 1 1 (dk_at dksX1_init_3 13 rfl rfl)
theorem dX1_init_87 : decode cX1_init 87 = .ok (.goto (-22), 3) := dk_167 255 234 (dk_at dksX1_init_3 16 rfl rfl)
theorem dX1_init_90 : decode cX1_init 90 = .ok (.iconst 0, 1) := dk_3 (dk_at dksX1_init_3 19 rfl rfl)
theorem dX1_init_91 : decode cX1_init 91 = .ok (.istore_n 1, 1) := dk_60 (dk_at dksX1_init_3 20 rfl rfl)
theorem dX1_init_92 : decode cX1_init 92 = .ok (.iload_n 1, 1) := dk_27 (dk_at dksX1_init_3 21 rfl rfl)
theorem dX1_init_93 : decode cX1_init 93 = .ok (.iconst 3, 1) := dk_6 (dk_at dksX1_init_3 22 rfl rfl)
theorem dX1_init_94 : decode cX1_init 94 = .ok (.if_icmp .gt 22, 3) := dk_163 0 22 (dk_at dksX1_init_4 0 rfl rfl)
theorem dX1_init_97 : decode cX1_init 97 = .ok (.aload_n 0, 1) := dk_42 (dk_at dksX1_init_4 3 rfl rfl)
theorem dX1_init_98 : decode cX1_init 98 = .ok (.getfield 191, 3) := dk_180 0 191 (dk_at dksX1_init_4 4 rfl rfl)
theorem dX1_init_101 : decode cX1_init 101 = .ok (.iload_n 1, 1) := dk_27 (dk_at dksX1_init_4 7 rfl rfl)
theorem dX1_init_102 : decode cX1_init 102 = .ok (.new 43, 3) := dk_187 0 43 (dk_at dksX1_init_4 8 rfl rfl)
theorem dX1_init_105 : decode cX1_init 105 = .ok (.dup, 1) := dk_89 (dk_at dksX1_init_4 11 rfl rfl)
theorem dX1_init_106 : decode cX1_init 106 = .ok (.invokespecial 307, 3) := dk_183 1 51 (dk_at dksX1_init_4 12 rfl rfl)
theorem dX1_init_109 : decode cX1_init 109 = .ok (.aastore, 1) := dk_83 (dk_at dksX1_init_4 15 rfl rfl)
theorem dX1_init_110 : decode cX1_init 110 = .ok (.iinc 1 1, 3) := dk_132 1 1 (dk_at dksX1_init_4 16 rfl rfl)
theorem dX1_init_113 : decode cX1_init 113 = .ok (.goto (-21), 3) := dk_167 255 235 (dk_at dksX1_init_4 19 rfl rfl)
theorem dX1_init_116 : decode cX1_init 116 = .ok (.return_, 1) := dk_177 (dk_at dksX1_init_4 22 rfl rfl)
abbrev cX1_keep : ByteArray := prog_1_method_64_code
def yX1_keep : MethodName := ⟨RX1, "keep", "(IIII)I"⟩
def dkwX1_keep_2 : List UInt8 := [28, 154, 0, 7, 1, 167, 0, 9, 29, 21, 4, 184, 0, 48, 181, 0, 124, 3, 172]
abbrev dktX1_keep_2 : List UInt8 := dkwX1_keep_2 ++ []
def dkwX1_keep_1 : List UInt8 := [16, 7, 184, 0, 30, 153, 0, 11, 21, 4, 184, 1, 53, 154, 0, 5, 2, 172, 42, 180, 0, 120, 27, 50]
abbrev dktX1_keep_1 : List UInt8 := dkwX1_keep_1 ++ dktX1_keep_2
def dkwX1_keep_0 : List UInt8 := [42, 27, 182, 0, 117, 153, 0, 35, 28, 3, 4, 184, 0, 30, 153, 0, 26, 28, 4, 160, 0, 23, 29, 3]
abbrev dktX1_keep_0 : List UInt8 := dkwX1_keep_0 ++ dktX1_keep_1
theorem dksX1_keep_0 : cX1_keep.data.toList.drop 0 = dktX1_keep_0 := by decide +kernel
theorem dksX1_keep_1 : cX1_keep.data.toList.drop 24 = dktX1_keep_1 := dk_seg dksX1_keep_0 24 rfl rfl
theorem dksX1_keep_2 : cX1_keep.data.toList.drop 48 = dktX1_keep_2 := dk_seg dksX1_keep_1 24 rfl rfl
theorem dX1_keep_0 : decode cX1_keep 0 = .ok (.aload_n 0, 1) := dk_42 (dk_at dksX1_keep_0 0 rfl rfl)
theorem dX1_keep_1 : decode cX1_keep 1 = .ok (.iload_n 1, 1) := dk_27 (dk_at dksX1_keep_0 1 rfl rfl)
theorem dX1_keep_2 : decode cX1_keep 2 = .ok (.invokevirtual 117, 3) := dk_182 0 117 (dk_at dksX1_keep_0 2 rfl rfl)
theorem dX1_keep_5 : decode cX1_keep 5 = .ok (.ifCond .eq 35, 3) := dk_153 0 35 (dk_at dksX1_keep_0 5 rfl rfl)
theorem dX1_keep_8 : decode cX1_keep 8 = .ok (.iload_n 2, 1) := dk_28 (dk_at dksX1_keep_0 8 rfl rfl)
theorem dX1_keep_9 : decode cX1_keep 9 = .ok (.iconst 0, 1) := dk_3 (dk_at dksX1_keep_0 9 rfl rfl)
theorem dX1_keep_10 : decode cX1_keep 10 = .ok (.iconst 1, 1) := dk_4 (dk_at dksX1_keep_0 10 rfl rfl)
theorem dX1_keep_11 : decode cX1_keep 11 = .ok (.invokestatic 30, 3) := dk_184 0 30 (dk_at dksX1_keep_0 11 rfl rfl)
theorem dX1_keep_14 : decode cX1_keep 14 = .ok (.ifCond .eq 26, 3) := dk_153 0 26 (dk_at dksX1_keep_0 14 rfl rfl)
theorem dX1_keep_17 : decode cX1_keep 17 = .ok (.iload_n 2, 1) := dk_28 (dk_at dksX1_keep_0 17 rfl rfl)
theorem dX1_keep_18 : decode cX1_keep 18 = .ok (.iconst 1, 1) := dk_4 (dk_at dksX1_keep_0 18 rfl rfl)
theorem dX1_keep_19 : decode cX1_keep 19 = .ok (.if_icmp .ne 23, 3) := dk_160 0 23 (dk_at dksX1_keep_0 19 rfl rfl)
theorem dX1_keep_22 : decode cX1_keep 22 = .ok (.iload_n 3, 1) := dk_29 (dk_at dksX1_keep_0 22 rfl rfl)
theorem dX1_keep_23 : decode cX1_keep 23 = .ok (.iconst 0, 1) := dk_3 (dk_at dksX1_keep_0 23 rfl rfl)
theorem dX1_keep_24 : decode cX1_keep 24 = .ok (.bipush 7, 2) := dk_16 7 (dk_at dksX1_keep_1 0 rfl rfl)
theorem dX1_keep_26 : decode cX1_keep 26 = .ok (.invokestatic 30, 3) := dk_184 0 30 (dk_at dksX1_keep_1 2 rfl rfl)
theorem dX1_keep_29 : decode cX1_keep 29 = .ok (.ifCond .eq 11, 3) := dk_153 0 11 (dk_at dksX1_keep_1 5 rfl rfl)
theorem dX1_keep_32 : decode cX1_keep 32 = .ok (.iload 4, 2) := dk_21 4 (dk_at dksX1_keep_1 8 rfl rfl)
theorem dX1_keep_34 : decode cX1_keep 34 = .ok (.invokestatic 309, 3) := dk_184 1 53 (dk_at dksX1_keep_1 10 rfl rfl)
theorem dX1_keep_37 : decode cX1_keep 37 = .ok (.ifCond .ne 5, 3) := dk_154 0 5 (dk_at dksX1_keep_1 13 rfl rfl)
theorem dX1_keep_40 : decode cX1_keep 40 = .ok (.iconst (-1), 1) := dk_2 (dk_at dksX1_keep_1 16 rfl rfl)
theorem dX1_keep_41 : decode cX1_keep 41 = .ok (.ireturn, 1) := dk_172 (dk_at dksX1_keep_1 17 rfl rfl)
theorem dX1_keep_42 : decode cX1_keep 42 = .ok (.aload_n 0, 1) := dk_42 (dk_at dksX1_keep_1 18 rfl rfl)
theorem dX1_keep_43 : decode cX1_keep 43 = .ok (.getfield 120, 3) := dk_180 0 120 (dk_at dksX1_keep_1 19 rfl rfl)
theorem dX1_keep_46 : decode cX1_keep 46 = .ok (.iload_n 1, 1) := dk_27 (dk_at dksX1_keep_1 22 rfl rfl)
theorem dX1_keep_47 : decode cX1_keep 47 = .ok (.aaload, 1) := dk_50 (dk_at dksX1_keep_1 23 rfl rfl)
theorem dX1_keep_48 : decode cX1_keep 48 = .ok (.iload_n 2, 1) := dk_28 (dk_at dksX1_keep_2 0 rfl rfl)
theorem dX1_keep_49 : decode cX1_keep 49 = .ok (.ifCond .ne 7, 3) := dk_154 0 7 (dk_at dksX1_keep_2 1 rfl rfl)
theorem dX1_keep_52 : decode cX1_keep 52 = .ok (.aconst_null, 1) := dk_1 (dk_at dksX1_keep_2 4 rfl rfl)
theorem dX1_keep_53 : decode cX1_keep 53 = .ok (.goto 9, 3) := dk_167 0 9 (dk_at dksX1_keep_2 5 rfl rfl)
theorem dX1_keep_56 : decode cX1_keep 56 = .ok (.iload_n 3, 1) := dk_29 (dk_at dksX1_keep_2 8 rfl rfl)
theorem dX1_keep_57 : decode cX1_keep 57 = .ok (.iload 4, 2) := dk_21 4 (dk_at dksX1_keep_2 9 rfl rfl)
theorem dX1_keep_59 : decode cX1_keep 59 = .ok (.invokestatic 48, 3) := dk_184 0 48 (dk_at dksX1_keep_2 11 rfl rfl)
theorem dX1_keep_62 : decode cX1_keep 62 = .ok (.putfield 124, 3) := dk_181 0 124 (dk_at dksX1_keep_2 14 rfl rfl)
theorem dX1_keep_65 : decode cX1_keep 65 = .ok (.iconst 0, 1) := dk_3 (dk_at dksX1_keep_2 17 rfl rfl)
theorem dX1_keep_66 : decode cX1_keep 66 = .ok (.ireturn, 1) := dk_172 (dk_at dksX1_keep_2 18 rfl rfl)
abbrev cX1_isNine : ByteArray := prog_1_method_6_code
def yX1_isNine : MethodName := ⟨RX1, "isNine", "(I)Z"⟩
def dkwX1_isNine_0 : List UInt8 := [26, 3, 16, 9, 184, 0, 30, 172]
abbrev dktX1_isNine_0 : List UInt8 := dkwX1_isNine_0 ++ []
theorem dksX1_isNine_0 : cX1_isNine.data.toList.drop 0 = dktX1_isNine_0 := by decide +kernel
theorem dX1_isNine_0 : decode cX1_isNine 0 = .ok (.iload_n 0, 1) := dk_26 (dk_at dksX1_isNine_0 0 rfl rfl)
theorem dX1_isNine_1 : decode cX1_isNine 1 = .ok (.iconst 0, 1) := dk_3 (dk_at dksX1_isNine_0 1 rfl rfl)
theorem dX1_isNine_2 : decode cX1_isNine 2 = .ok (.bipush 9, 2) := dk_16 9 (dk_at dksX1_isNine_0 2 rfl rfl)
theorem dX1_isNine_4 : decode cX1_isNine 4 = .ok (.invokestatic 30, 3) := dk_184 0 30 (dk_at dksX1_isNine_0 4 rfl rfl)
theorem dX1_isNine_7 : decode cX1_isNine 7 = .ok (.ireturn, 1) := dk_172 (dk_at dksX1_isNine_0 7 rfl rfl)
abbrev cX1_row : ByteArray := prog_1_method_65_code
def yX1_row : MethodName := ⟨RX1, "row", "(III)I"⟩
def dkwX1_row_3 : List UInt8 := [16, 242, 172]
abbrev dktX1_row_3 : List UInt8 := dkwX1_row_3 ++ []
def dkwX1_row_2 : List UInt8 := [167, 0, 8, 29, 188, 10, 58, 4, 42, 180, 0, 120, 27, 50, 25, 4, 181, 0, 124, 3, 172, 58, 4]
abbrev dktX1_row_2 : List UInt8 := dkwX1_row_2 ++ dktX1_row_3
def dkwX1_row_1 : List UInt8 := [172, 28, 154, 0, 11, 29, 188, 8, 58, 4, 167, 0, 21, 28, 4, 160, 0, 11, 29, 188, 9, 58, 4]
abbrev dktX1_row_1 : List UInt8 := dkwX1_row_1 ++ dktX1_row_2
def dkwX1_row_0 : List UInt8 := [42, 27, 182, 0, 117, 153, 0, 18, 28, 3, 5, 184, 0, 30, 153, 0, 9, 29, 16, 100, 164, 0, 5, 2]
abbrev dktX1_row_0 : List UInt8 := dkwX1_row_0 ++ dktX1_row_1
theorem dksX1_row_0 : cX1_row.data.toList.drop 0 = dktX1_row_0 := by decide +kernel
theorem dksX1_row_1 : cX1_row.data.toList.drop 24 = dktX1_row_1 := dk_seg dksX1_row_0 24 rfl rfl
theorem dksX1_row_2 : cX1_row.data.toList.drop 47 = dktX1_row_2 := dk_seg dksX1_row_1 23 rfl rfl
theorem dksX1_row_3 : cX1_row.data.toList.drop 70 = dktX1_row_3 := dk_seg dksX1_row_2 23 rfl rfl
theorem dX1_row_0 : decode cX1_row 0 = .ok (.aload_n 0, 1) := dk_42 (dk_at dksX1_row_0 0 rfl rfl)
theorem dX1_row_1 : decode cX1_row 1 = .ok (.iload_n 1, 1) := dk_27 (dk_at dksX1_row_0 1 rfl rfl)
theorem dX1_row_2 : decode cX1_row 2 = .ok (.invokevirtual 117, 3) := dk_182 0 117 (dk_at dksX1_row_0 2 rfl rfl)
theorem dX1_row_5 : decode cX1_row 5 = .ok (.ifCond .eq 18, 3) := dk_153 0 18 (dk_at dksX1_row_0 5 rfl rfl)
theorem dX1_row_8 : decode cX1_row 8 = .ok (.iload_n 2, 1) := dk_28 (dk_at dksX1_row_0 8 rfl rfl)
theorem dX1_row_9 : decode cX1_row 9 = .ok (.iconst 0, 1) := dk_3 (dk_at dksX1_row_0 9 rfl rfl)
theorem dX1_row_10 : decode cX1_row 10 = .ok (.iconst 2, 1) := dk_5 (dk_at dksX1_row_0 10 rfl rfl)
theorem dX1_row_11 : decode cX1_row 11 = .ok (.invokestatic 30, 3) := dk_184 0 30 (dk_at dksX1_row_0 11 rfl rfl)
theorem dX1_row_14 : decode cX1_row 14 = .ok (.ifCond .eq 9, 3) := dk_153 0 9 (dk_at dksX1_row_0 14 rfl rfl)
theorem dX1_row_17 : decode cX1_row 17 = .ok (.iload_n 3, 1) := dk_29 (dk_at dksX1_row_0 17 rfl rfl)
theorem dX1_row_18 : decode cX1_row 18 = .ok (.bipush 100, 2) := dk_16 100 (dk_at dksX1_row_0 18 rfl rfl)
theorem dX1_row_20 : decode cX1_row 20 = .ok (.if_icmp .le 5, 3) := dk_164 0 5 (dk_at dksX1_row_0 20 rfl rfl)
theorem dX1_row_23 : decode cX1_row 23 = .ok (.iconst (-1), 1) := dk_2 (dk_at dksX1_row_0 23 rfl rfl)
theorem dX1_row_24 : decode cX1_row 24 = .ok (.ireturn, 1) := dk_172 (dk_at dksX1_row_1 0 rfl rfl)
theorem dX1_row_25 : decode cX1_row 25 = .ok (.iload_n 2, 1) := dk_28 (dk_at dksX1_row_1 1 rfl rfl)
theorem dX1_row_26 : decode cX1_row 26 = .ok (.ifCond .ne 11, 3) := dk_154 0 11 (dk_at dksX1_row_1 2 rfl rfl)
theorem dX1_row_29 : decode cX1_row 29 = .ok (.iload_n 3, 1) := dk_29 (dk_at dksX1_row_1 5 rfl rfl)
theorem dX1_row_30 : decode cX1_row 30 = .ok (.newarray .byte, 2) := dk_188_8 (dk_at dksX1_row_1 6 rfl rfl)
theorem dX1_row_32 : decode cX1_row 32 = .ok (.astore 4, 2) := dk_58 4 (dk_at dksX1_row_1 8 rfl rfl)
theorem dX1_row_34 : decode cX1_row 34 = .ok (.goto 21, 3) := dk_167 0 21 (dk_at dksX1_row_1 10 rfl rfl)
theorem dX1_row_37 : decode cX1_row 37 = .ok (.iload_n 2, 1) := dk_28 (dk_at dksX1_row_1 13 rfl rfl)
theorem dX1_row_38 : decode cX1_row 38 = .ok (.iconst 1, 1) := dk_4 (dk_at dksX1_row_1 14 rfl rfl)
theorem dX1_row_39 : decode cX1_row 39 = .ok (.if_icmp .ne 11, 3) := dk_160 0 11 (dk_at dksX1_row_1 15 rfl rfl)
theorem dX1_row_42 : decode cX1_row 42 = .ok (.iload_n 3, 1) := dk_29 (dk_at dksX1_row_1 18 rfl rfl)
theorem dX1_row_43 : decode cX1_row 43 = .ok (.newarray .short, 2) := dk_188_9 (dk_at dksX1_row_1 19 rfl rfl)
theorem dX1_row_45 : decode cX1_row 45 = .ok (.astore 4, 2) := dk_58 4 (dk_at dksX1_row_1 21 rfl rfl)
theorem dX1_row_47 : decode cX1_row 47 = .ok (.goto 8, 3) := dk_167 0 8 (dk_at dksX1_row_2 0 rfl rfl)
theorem dX1_row_50 : decode cX1_row 50 = .ok (.iload_n 3, 1) := dk_29 (dk_at dksX1_row_2 3 rfl rfl)
theorem dX1_row_51 : decode cX1_row 51 = .ok (.newarray .int, 2) := dk_188_10 (dk_at dksX1_row_2 4 rfl rfl)
theorem dX1_row_53 : decode cX1_row 53 = .ok (.astore 4, 2) := dk_58 4 (dk_at dksX1_row_2 6 rfl rfl)
theorem dX1_row_55 : decode cX1_row 55 = .ok (.aload_n 0, 1) := dk_42 (dk_at dksX1_row_2 8 rfl rfl)
theorem dX1_row_56 : decode cX1_row 56 = .ok (.getfield 120, 3) := dk_180 0 120 (dk_at dksX1_row_2 9 rfl rfl)
theorem dX1_row_59 : decode cX1_row 59 = .ok (.iload_n 1, 1) := dk_27 (dk_at dksX1_row_2 12 rfl rfl)
theorem dX1_row_60 : decode cX1_row 60 = .ok (.aaload, 1) := dk_50 (dk_at dksX1_row_2 13 rfl rfl)
theorem dX1_row_61 : decode cX1_row 61 = .ok (.aload 4, 2) := dk_25 4 (dk_at dksX1_row_2 14 rfl rfl)
theorem dX1_row_63 : decode cX1_row 63 = .ok (.putfield 124, 3) := dk_181 0 124 (dk_at dksX1_row_2 16 rfl rfl)
theorem dX1_row_66 : decode cX1_row 66 = .ok (.iconst 0, 1) := dk_3 (dk_at dksX1_row_2 19 rfl rfl)
theorem dX1_row_67 : decode cX1_row 67 = .ok (.ireturn, 1) := dk_172 (dk_at dksX1_row_2 20 rfl rfl)
theorem dX1_row_68 : decode cX1_row 68 = .ok (.astore 4, 2) := dk_58 4 (dk_at dksX1_row_2 21 rfl rfl)
theorem dX1_row_70 : decode cX1_row 70 = .ok (.bipush (-14), 2) := dk_16 242 (dk_at dksX1_row_3 0 rfl rfl)
theorem dX1_row_72 : decode cX1_row 72 = .ok (.ireturn, 1) := dk_172 (dk_at dksX1_row_3 2 rfl rfl)
abbrev cX1_put : ByteArray := prog_1_method_66_code
def yX1_put : MethodName := ⟨RX1, "put", "(III)I"⟩
def dkwX1_put_3 : List UInt8 := [25, 4, 192, 0, 227, 28, 29, 79, 3, 172, 58, 5, 16, 244, 172, 58, 5, 16, 243, 172]
abbrev dktX1_put_3 : List UInt8 := dkwX1_put_3 ++ []
def dkwX1_put_2 : List UInt8 := [167, 0, 31, 25, 4, 193, 0, 225, 153, 0, 15, 25, 4, 192, 0, 225, 28, 29, 147, 86, 167, 0, 11]
abbrev dktX1_put_2 : List UInt8 := dkwX1_put_2 ++ dktX1_put_3
def dkwX1_put_1 : List UInt8 := [199, 0, 6, 16, 245, 172, 25, 4, 193, 0, 130, 153, 0, 15, 25, 4, 192, 0, 130, 28, 29, 145, 84]
abbrev dktX1_put_1 : List UInt8 := dkwX1_put_1 ++ dktX1_put_2
def dkwX1_put_0 : List UInt8 := [42, 27, 182, 0, 117, 154, 0, 5, 2, 172, 42, 180, 0, 120, 27, 50, 180, 0, 124, 58, 4, 25, 4]
abbrev dktX1_put_0 : List UInt8 := dkwX1_put_0 ++ dktX1_put_1
theorem dksX1_put_0 : cX1_put.data.toList.drop 0 = dktX1_put_0 := by decide +kernel
theorem dksX1_put_1 : cX1_put.data.toList.drop 23 = dktX1_put_1 := dk_seg dksX1_put_0 23 rfl rfl
theorem dksX1_put_2 : cX1_put.data.toList.drop 46 = dktX1_put_2 := dk_seg dksX1_put_1 23 rfl rfl
theorem dksX1_put_3 : cX1_put.data.toList.drop 69 = dktX1_put_3 := dk_seg dksX1_put_2 23 rfl rfl
theorem dX1_put_0 : decode cX1_put 0 = .ok (.aload_n 0, 1) := dk_42 (dk_at dksX1_put_0 0 rfl rfl)
theorem dX1_put_1 : decode cX1_put 1 = .ok (.iload_n 1, 1) := dk_27 (dk_at dksX1_put_0 1 rfl rfl)
theorem dX1_put_2 : decode cX1_put 2 = .ok (.invokevirtual 117, 3) := dk_182 0 117 (dk_at dksX1_put_0 2 rfl rfl)
theorem dX1_put_5 : decode cX1_put 5 = .ok (.ifCond .ne 5, 3) := dk_154 0 5 (dk_at dksX1_put_0 5 rfl rfl)
theorem dX1_put_8 : decode cX1_put 8 = .ok (.iconst (-1), 1) := dk_2 (dk_at dksX1_put_0 8 rfl rfl)
theorem dX1_put_9 : decode cX1_put 9 = .ok (.ireturn, 1) := dk_172 (dk_at dksX1_put_0 9 rfl rfl)
theorem dX1_put_10 : decode cX1_put 10 = .ok (.aload_n 0, 1) := dk_42 (dk_at dksX1_put_0 10 rfl rfl)
theorem dX1_put_11 : decode cX1_put 11 = .ok (.getfield 120, 3) := dk_180 0 120 (dk_at dksX1_put_0 11 rfl rfl)
theorem dX1_put_14 : decode cX1_put 14 = .ok (.iload_n 1, 1) := dk_27 (dk_at dksX1_put_0 14 rfl rfl)
theorem dX1_put_15 : decode cX1_put 15 = .ok (.aaload, 1) := dk_50 (dk_at dksX1_put_0 15 rfl rfl)
theorem dX1_put_16 : decode cX1_put 16 = .ok (.getfield 124, 3) := dk_180 0 124 (dk_at dksX1_put_0 16 rfl rfl)
theorem dX1_put_19 : decode cX1_put 19 = .ok (.astore 4, 2) := dk_58 4 (dk_at dksX1_put_0 19 rfl rfl)
theorem dX1_put_21 : decode cX1_put 21 = .ok (.aload 4, 2) := dk_25 4 (dk_at dksX1_put_0 21 rfl rfl)
theorem dX1_put_23 : decode cX1_put 23 = .ok (.ifnonnull 6, 3) := dk_199 0 6 (dk_at dksX1_put_1 0 rfl rfl)
theorem dX1_put_26 : decode cX1_put 26 = .ok (.bipush (-11), 2) := dk_16 245 (dk_at dksX1_put_1 3 rfl rfl)
theorem dX1_put_28 : decode cX1_put 28 = .ok (.ireturn, 1) := dk_172 (dk_at dksX1_put_1 5 rfl rfl)
theorem dX1_put_29 : decode cX1_put 29 = .ok (.aload 4, 2) := dk_25 4 (dk_at dksX1_put_1 6 rfl rfl)
theorem dX1_put_31 : decode cX1_put 31 = .ok (.instanceof 130, 3) := dk_193 0 130 (dk_at dksX1_put_1 8 rfl rfl)
theorem dX1_put_34 : decode cX1_put 34 = .ok (.ifCond .eq 15, 3) := dk_153 0 15 (dk_at dksX1_put_1 11 rfl rfl)
theorem dX1_put_37 : decode cX1_put 37 = .ok (.aload 4, 2) := dk_25 4 (dk_at dksX1_put_1 14 rfl rfl)
theorem dX1_put_39 : decode cX1_put 39 = .ok (.checkcast 130, 3) := dk_192 0 130 (dk_at dksX1_put_1 16 rfl rfl)
theorem dX1_put_42 : decode cX1_put 42 = .ok (.iload_n 2, 1) := dk_28 (dk_at dksX1_put_1 19 rfl rfl)
theorem dX1_put_43 : decode cX1_put 43 = .ok (.iload_n 3, 1) := dk_29 (dk_at dksX1_put_1 20 rfl rfl)
theorem dX1_put_44 : decode cX1_put 44 = .ok (.i2b, 1) := dk_145 (dk_at dksX1_put_1 21 rfl rfl)
theorem dX1_put_45 : decode cX1_put 45 = .ok (.bastore, 1) := dk_84 (dk_at dksX1_put_1 22 rfl rfl)
theorem dX1_put_46 : decode cX1_put 46 = .ok (.goto 31, 3) := dk_167 0 31 (dk_at dksX1_put_2 0 rfl rfl)
theorem dX1_put_49 : decode cX1_put 49 = .ok (.aload 4, 2) := dk_25 4 (dk_at dksX1_put_2 3 rfl rfl)
theorem dX1_put_51 : decode cX1_put 51 = .ok (.instanceof 225, 3) := dk_193 0 225 (dk_at dksX1_put_2 5 rfl rfl)
theorem dX1_put_54 : decode cX1_put 54 = .ok (.ifCond .eq 15, 3) := dk_153 0 15 (dk_at dksX1_put_2 8 rfl rfl)
theorem dX1_put_57 : decode cX1_put 57 = .ok (.aload 4, 2) := dk_25 4 (dk_at dksX1_put_2 11 rfl rfl)
theorem dX1_put_59 : decode cX1_put 59 = .ok (.checkcast 225, 3) := dk_192 0 225 (dk_at dksX1_put_2 13 rfl rfl)
theorem dX1_put_62 : decode cX1_put 62 = .ok (.iload_n 2, 1) := dk_28 (dk_at dksX1_put_2 16 rfl rfl)
theorem dX1_put_63 : decode cX1_put 63 = .ok (.iload_n 3, 1) := dk_29 (dk_at dksX1_put_2 17 rfl rfl)
theorem dX1_put_64 : decode cX1_put 64 = .ok (.i2s, 1) := dk_147 (dk_at dksX1_put_2 18 rfl rfl)
theorem dX1_put_65 : decode cX1_put 65 = .ok (.sastore, 1) := dk_86 (dk_at dksX1_put_2 19 rfl rfl)
theorem dX1_put_66 : decode cX1_put 66 = .ok (.goto 11, 3) := dk_167 0 11 (dk_at dksX1_put_2 20 rfl rfl)
theorem dX1_put_69 : decode cX1_put 69 = .ok (.aload 4, 2) := dk_25 4 (dk_at dksX1_put_3 0 rfl rfl)
theorem dX1_put_71 : decode cX1_put 71 = .ok (.checkcast 227, 3) := dk_192 0 227 (dk_at dksX1_put_3 2 rfl rfl)
theorem dX1_put_74 : decode cX1_put 74 = .ok (.iload_n 2, 1) := dk_28 (dk_at dksX1_put_3 5 rfl rfl)
theorem dX1_put_75 : decode cX1_put 75 = .ok (.iload_n 3, 1) := dk_29 (dk_at dksX1_put_3 6 rfl rfl)
theorem dX1_put_76 : decode cX1_put 76 = .ok (.iastore, 1) := dk_79 (dk_at dksX1_put_3 7 rfl rfl)
theorem dX1_put_77 : decode cX1_put 77 = .ok (.iconst 0, 1) := dk_3 (dk_at dksX1_put_3 8 rfl rfl)
theorem dX1_put_78 : decode cX1_put 78 = .ok (.ireturn, 1) := dk_172 (dk_at dksX1_put_3 9 rfl rfl)
theorem dX1_put_79 : decode cX1_put 79 = .ok (.astore 5, 2) := dk_58 5 (dk_at dksX1_put_3 10 rfl rfl)
theorem dX1_put_81 : decode cX1_put 81 = .ok (.bipush (-12), 2) := dk_16 244 (dk_at dksX1_put_3 12 rfl rfl)
theorem dX1_put_83 : decode cX1_put 83 = .ok (.ireturn, 1) := dk_172 (dk_at dksX1_put_3 14 rfl rfl)
theorem dX1_put_84 : decode cX1_put 84 = .ok (.astore 5, 2) := dk_58 5 (dk_at dksX1_put_3 15 rfl rfl)
theorem dX1_put_86 : decode cX1_put 86 = .ok (.bipush (-13), 2) := dk_16 243 (dk_at dksX1_put_3 17 rfl rfl)
theorem dX1_put_88 : decode cX1_put 88 = .ok (.ireturn, 1) := dk_172 (dk_at dksX1_put_3 19 rfl rfl)
abbrev cX1_copy : ByteArray := prog_1_method_68_code
def yX1_copy : MethodName := ⟨RX1, "copy", "(IIIII)I"⟩
def dkwX1_copy_4 : List UInt8 := [58, 8, 16, 243, 172]
abbrev dktX1_copy_4 : List UInt8 := dkwX1_copy_4 ++ []
def dkwX1_copy_3 : List UInt8 := [184, 0, 243, 159, 0, 6, 16, 244, 172, 25, 6, 28, 25, 7, 21, 4, 21, 5, 184, 1, 68, 21, 5, 172]
abbrev dktX1_copy_3 : List UInt8 := dkwX1_copy_3 ++ dktX1_copy_4
def dkwX1_copy_2 : List UInt8 := [199, 0, 6, 16, 245, 172, 25, 6, 184, 0, 243, 2, 159, 0, 16, 25, 6, 184, 0, 243, 25, 7]
abbrev dktX1_copy_2 : List UInt8 := dkwX1_copy_2 ++ dktX1_copy_3
def dkwX1_copy_1 : List UInt8 := [180, 0, 124, 58, 6, 42, 180, 0, 120, 29, 50, 180, 0, 124, 58, 7, 25, 6, 198, 0, 8, 25, 7]
abbrev dktX1_copy_1 : List UInt8 := dkwX1_copy_1 ++ dktX1_copy_2
def dkwX1_copy_0 : List UInt8 := [42, 27, 182, 0, 117, 153, 0, 11, 42, 29, 182, 0, 117, 154, 0, 5, 2, 172, 42, 180, 0, 120, 27, 50]
abbrev dktX1_copy_0 : List UInt8 := dkwX1_copy_0 ++ dktX1_copy_1
theorem dksX1_copy_0 : cX1_copy.data.toList.drop 0 = dktX1_copy_0 := by decide +kernel
theorem dksX1_copy_1 : cX1_copy.data.toList.drop 24 = dktX1_copy_1 := dk_seg dksX1_copy_0 24 rfl rfl
theorem dksX1_copy_2 : cX1_copy.data.toList.drop 47 = dktX1_copy_2 := dk_seg dksX1_copy_1 23 rfl rfl
theorem dksX1_copy_3 : cX1_copy.data.toList.drop 69 = dktX1_copy_3 := dk_seg dksX1_copy_2 22 rfl rfl
theorem dksX1_copy_4 : cX1_copy.data.toList.drop 93 = dktX1_copy_4 := dk_seg dksX1_copy_3 24 rfl rfl
theorem dX1_copy_0 : decode cX1_copy 0 = .ok (.aload_n 0, 1) := dk_42 (dk_at dksX1_copy_0 0 rfl rfl)
theorem dX1_copy_1 : decode cX1_copy 1 = .ok (.iload_n 1, 1) := dk_27 (dk_at dksX1_copy_0 1 rfl rfl)
theorem dX1_copy_2 : decode cX1_copy 2 = .ok (.invokevirtual 117, 3) := dk_182 0 117 (dk_at dksX1_copy_0 2 rfl rfl)
theorem dX1_copy_5 : decode cX1_copy 5 = .ok (.ifCond .eq 11, 3) := dk_153 0 11 (dk_at dksX1_copy_0 5 rfl rfl)
theorem dX1_copy_8 : decode cX1_copy 8 = .ok (.aload_n 0, 1) := dk_42 (dk_at dksX1_copy_0 8 rfl rfl)
theorem dX1_copy_9 : decode cX1_copy 9 = .ok (.iload_n 3, 1) := dk_29 (dk_at dksX1_copy_0 9 rfl rfl)
theorem dX1_copy_10 : decode cX1_copy 10 = .ok (.invokevirtual 117, 3) := dk_182 0 117 (dk_at dksX1_copy_0 10 rfl rfl)
theorem dX1_copy_13 : decode cX1_copy 13 = .ok (.ifCond .ne 5, 3) := dk_154 0 5 (dk_at dksX1_copy_0 13 rfl rfl)
theorem dX1_copy_16 : decode cX1_copy 16 = .ok (.iconst (-1), 1) := dk_2 (dk_at dksX1_copy_0 16 rfl rfl)
theorem dX1_copy_17 : decode cX1_copy 17 = .ok (.ireturn, 1) := dk_172 (dk_at dksX1_copy_0 17 rfl rfl)
theorem dX1_copy_18 : decode cX1_copy 18 = .ok (.aload_n 0, 1) := dk_42 (dk_at dksX1_copy_0 18 rfl rfl)
theorem dX1_copy_19 : decode cX1_copy 19 = .ok (.getfield 120, 3) := dk_180 0 120 (dk_at dksX1_copy_0 19 rfl rfl)
theorem dX1_copy_22 : decode cX1_copy 22 = .ok (.iload_n 1, 1) := dk_27 (dk_at dksX1_copy_0 22 rfl rfl)
theorem dX1_copy_23 : decode cX1_copy 23 = .ok (.aaload, 1) := dk_50 (dk_at dksX1_copy_0 23 rfl rfl)
theorem dX1_copy_24 : decode cX1_copy 24 = .ok (.getfield 124, 3) := dk_180 0 124 (dk_at dksX1_copy_1 0 rfl rfl)
theorem dX1_copy_27 : decode cX1_copy 27 = .ok (.astore 6, 2) := dk_58 6 (dk_at dksX1_copy_1 3 rfl rfl)
theorem dX1_copy_29 : decode cX1_copy 29 = .ok (.aload_n 0, 1) := dk_42 (dk_at dksX1_copy_1 5 rfl rfl)
theorem dX1_copy_30 : decode cX1_copy 30 = .ok (.getfield 120, 3) := dk_180 0 120 (dk_at dksX1_copy_1 6 rfl rfl)
theorem dX1_copy_33 : decode cX1_copy 33 = .ok (.iload_n 3, 1) := dk_29 (dk_at dksX1_copy_1 9 rfl rfl)
theorem dX1_copy_34 : decode cX1_copy 34 = .ok (.aaload, 1) := dk_50 (dk_at dksX1_copy_1 10 rfl rfl)
theorem dX1_copy_35 : decode cX1_copy 35 = .ok (.getfield 124, 3) := dk_180 0 124 (dk_at dksX1_copy_1 11 rfl rfl)
theorem dX1_copy_38 : decode cX1_copy 38 = .ok (.astore 7, 2) := dk_58 7 (dk_at dksX1_copy_1 14 rfl rfl)
theorem dX1_copy_40 : decode cX1_copy 40 = .ok (.aload 6, 2) := dk_25 6 (dk_at dksX1_copy_1 16 rfl rfl)
theorem dX1_copy_42 : decode cX1_copy 42 = .ok (.ifnull 8, 3) := dk_198 0 8 (dk_at dksX1_copy_1 18 rfl rfl)
theorem dX1_copy_45 : decode cX1_copy 45 = .ok (.aload 7, 2) := dk_25 7 (dk_at dksX1_copy_1 21 rfl rfl)
theorem dX1_copy_47 : decode cX1_copy 47 = .ok (.ifnonnull 6, 3) := dk_199 0 6 (dk_at dksX1_copy_2 0 rfl rfl)
theorem dX1_copy_50 : decode cX1_copy 50 = .ok (.bipush (-11), 2) := dk_16 245 (dk_at dksX1_copy_2 3 rfl rfl)
theorem dX1_copy_52 : decode cX1_copy 52 = .ok (.ireturn, 1) := dk_172 (dk_at dksX1_copy_2 5 rfl rfl)
theorem dX1_copy_53 : decode cX1_copy 53 = .ok (.aload 6, 2) := dk_25 6 (dk_at dksX1_copy_2 6 rfl rfl)
theorem dX1_copy_55 : decode cX1_copy 55 = .ok (.invokestatic 243, 3) := dk_184 0 243 (dk_at dksX1_copy_2 8 rfl rfl)
theorem dX1_copy_58 : decode cX1_copy 58 = .ok (.iconst (-1), 1) := dk_2 (dk_at dksX1_copy_2 11 rfl rfl)
theorem dX1_copy_59 : decode cX1_copy 59 = .ok (.if_icmp .eq 16, 3) := dk_159 0 16 (dk_at dksX1_copy_2 12 rfl rfl)
theorem dX1_copy_62 : decode cX1_copy 62 = .ok (.aload 6, 2) := dk_25 6 (dk_at dksX1_copy_2 15 rfl rfl)
theorem dX1_copy_64 : decode cX1_copy 64 = .ok (.invokestatic 243, 3) := dk_184 0 243 (dk_at dksX1_copy_2 17 rfl rfl)
theorem dX1_copy_67 : decode cX1_copy 67 = .ok (.aload 7, 2) := dk_25 7 (dk_at dksX1_copy_2 20 rfl rfl)
theorem dX1_copy_69 : decode cX1_copy 69 = .ok (.invokestatic 243, 3) := dk_184 0 243 (dk_at dksX1_copy_3 0 rfl rfl)
theorem dX1_copy_72 : decode cX1_copy 72 = .ok (.if_icmp .eq 6, 3) := dk_159 0 6 (dk_at dksX1_copy_3 3 rfl rfl)
theorem dX1_copy_75 : decode cX1_copy 75 = .ok (.bipush (-12), 2) := dk_16 244 (dk_at dksX1_copy_3 6 rfl rfl)
theorem dX1_copy_77 : decode cX1_copy 77 = .ok (.ireturn, 1) := dk_172 (dk_at dksX1_copy_3 8 rfl rfl)
theorem dX1_copy_78 : decode cX1_copy 78 = .ok (.aload 6, 2) := dk_25 6 (dk_at dksX1_copy_3 9 rfl rfl)
theorem dX1_copy_80 : decode cX1_copy 80 = .ok (.iload_n 2, 1) := dk_28 (dk_at dksX1_copy_3 11 rfl rfl)
theorem dX1_copy_81 : decode cX1_copy 81 = .ok (.aload 7, 2) := dk_25 7 (dk_at dksX1_copy_3 12 rfl rfl)
theorem dX1_copy_83 : decode cX1_copy 83 = .ok (.iload 4, 2) := dk_21 4 (dk_at dksX1_copy_3 14 rfl rfl)
theorem dX1_copy_85 : decode cX1_copy 85 = .ok (.iload 5, 2) := dk_21 5 (dk_at dksX1_copy_3 16 rfl rfl)
theorem dX1_copy_87 : decode cX1_copy 87 = .ok (.invokestatic 324, 3) := dk_184 1 68 (dk_at dksX1_copy_3 18 rfl rfl)
theorem dX1_copy_90 : decode cX1_copy 90 = .ok (.iload 5, 2) := dk_21 5 (dk_at dksX1_copy_3 21 rfl rfl)
theorem dX1_copy_92 : decode cX1_copy 92 = .ok (.ireturn, 1) := dk_172 (dk_at dksX1_copy_3 23 rfl rfl)
theorem dX1_copy_93 : decode cX1_copy 93 = .ok (.astore 8, 2) := dk_58 8 (dk_at dksX1_copy_4 0 rfl rfl)
theorem dX1_copy_95 : decode cX1_copy 95 = .ok (.bipush (-13), 2) := dk_16 243 (dk_at dksX1_copy_4 2 rfl rfl)
theorem dX1_copy_97 : decode cX1_copy 97 = .ok (.ireturn, 1) := dk_172 (dk_at dksX1_copy_4 4 rfl rfl)
abbrev cX1_cost : ByteArray := prog_1_method_69_code
def yX1_cost : MethodName := ⟨RX1, "cost", "(I)I"⟩
def dkwX1_cost_1 : List UInt8 := [182, 0, 219, 172, 77, 16, 245, 172, 77, 16, 244, 172]
abbrev dktX1_cost_1 : List UInt8 := dkwX1_cost_1 ++ []
def dkwX1_cost_0 : List UInt8 := [42, 27, 182, 0, 117, 154, 0, 5, 2, 172, 42, 180, 0, 120, 27, 50, 180, 0, 124, 192, 0, 1]
abbrev dktX1_cost_0 : List UInt8 := dkwX1_cost_0 ++ dktX1_cost_1
theorem dksX1_cost_0 : cX1_cost.data.toList.drop 0 = dktX1_cost_0 := by decide +kernel
theorem dksX1_cost_1 : cX1_cost.data.toList.drop 22 = dktX1_cost_1 := dk_seg dksX1_cost_0 22 rfl rfl
theorem dX1_cost_0 : decode cX1_cost 0 = .ok (.aload_n 0, 1) := dk_42 (dk_at dksX1_cost_0 0 rfl rfl)
theorem dX1_cost_1 : decode cX1_cost 1 = .ok (.iload_n 1, 1) := dk_27 (dk_at dksX1_cost_0 1 rfl rfl)
theorem dX1_cost_2 : decode cX1_cost 2 = .ok (.invokevirtual 117, 3) := dk_182 0 117 (dk_at dksX1_cost_0 2 rfl rfl)
theorem dX1_cost_5 : decode cX1_cost 5 = .ok (.ifCond .ne 5, 3) := dk_154 0 5 (dk_at dksX1_cost_0 5 rfl rfl)
theorem dX1_cost_8 : decode cX1_cost 8 = .ok (.iconst (-1), 1) := dk_2 (dk_at dksX1_cost_0 8 rfl rfl)
theorem dX1_cost_9 : decode cX1_cost 9 = .ok (.ireturn, 1) := dk_172 (dk_at dksX1_cost_0 9 rfl rfl)
theorem dX1_cost_10 : decode cX1_cost 10 = .ok (.aload_n 0, 1) := dk_42 (dk_at dksX1_cost_0 10 rfl rfl)
theorem dX1_cost_11 : decode cX1_cost 11 = .ok (.getfield 120, 3) := dk_180 0 120 (dk_at dksX1_cost_0 11 rfl rfl)
theorem dX1_cost_14 : decode cX1_cost 14 = .ok (.iload_n 1, 1) := dk_27 (dk_at dksX1_cost_0 14 rfl rfl)
theorem dX1_cost_15 : decode cX1_cost 15 = .ok (.aaload, 1) := dk_50 (dk_at dksX1_cost_0 15 rfl rfl)
theorem dX1_cost_16 : decode cX1_cost 16 = .ok (.getfield 124, 3) := dk_180 0 124 (dk_at dksX1_cost_0 16 rfl rfl)
theorem dX1_cost_19 : decode cX1_cost 19 = .ok (.checkcast 1, 3) := dk_192 0 1 (dk_at dksX1_cost_0 19 rfl rfl)
theorem dX1_cost_22 : decode cX1_cost 22 = .ok (.invokevirtual 219, 3) := dk_182 0 219 (dk_at dksX1_cost_1 0 rfl rfl)
theorem dX1_cost_25 : decode cX1_cost 25 = .ok (.ireturn, 1) := dk_172 (dk_at dksX1_cost_1 3 rfl rfl)
theorem dX1_cost_26 : decode cX1_cost 26 = .ok (.astore_n 2, 1) := dk_77 (dk_at dksX1_cost_1 4 rfl rfl)
theorem dX1_cost_27 : decode cX1_cost 27 = .ok (.bipush (-11), 2) := dk_16 245 (dk_at dksX1_cost_1 5 rfl rfl)
theorem dX1_cost_29 : decode cX1_cost 29 = .ok (.ireturn, 1) := dk_172 (dk_at dksX1_cost_1 7 rfl rfl)
theorem dX1_cost_30 : decode cX1_cost 30 = .ok (.astore_n 2, 1) := dk_77 (dk_at dksX1_cost_1 8 rfl rfl)
theorem dX1_cost_31 : decode cX1_cost 31 = .ok (.bipush (-12), 2) := dk_16 244 (dk_at dksX1_cost_1 9 rfl rfl)
theorem dX1_cost_33 : decode cX1_cost 33 = .ok (.ireturn, 1) := dk_172 (dk_at dksX1_cost_1 11 rfl rfl)
abbrev cX1_toss : ByteArray := prog_1_method_70_code
def yX1_toss : MethodName := ⟨RX1, "toss", "(I)I"⟩
def dkwX1_toss_2 : List UInt8 := [16, 241, 172, 77, 16, 244, 172]
abbrev dktX1_toss_2 : List UInt8 := dkwX1_toss_2 ++ []
def dkwX1_toss_1 : List UInt8 := [172, 42, 180, 0, 120, 27, 50, 180, 0, 124, 192, 0, 1, 182, 1, 76, 191, 77, 44, 180, 1, 82, 172, 77]
abbrev dktX1_toss_1 : List UInt8 := dkwX1_toss_1 ++ dktX1_toss_2
def dkwX1_toss_0 : List UInt8 := [42, 27, 182, 0, 117, 154, 0, 5, 2, 172, 42, 180, 0, 120, 27, 50, 180, 0, 124, 199, 0, 6, 16, 245]
abbrev dktX1_toss_0 : List UInt8 := dkwX1_toss_0 ++ dktX1_toss_1
theorem dksX1_toss_0 : cX1_toss.data.toList.drop 0 = dktX1_toss_0 := by decide +kernel
theorem dksX1_toss_1 : cX1_toss.data.toList.drop 24 = dktX1_toss_1 := dk_seg dksX1_toss_0 24 rfl rfl
theorem dksX1_toss_2 : cX1_toss.data.toList.drop 48 = dktX1_toss_2 := dk_seg dksX1_toss_1 24 rfl rfl
theorem dX1_toss_0 : decode cX1_toss 0 = .ok (.aload_n 0, 1) := dk_42 (dk_at dksX1_toss_0 0 rfl rfl)
theorem dX1_toss_1 : decode cX1_toss 1 = .ok (.iload_n 1, 1) := dk_27 (dk_at dksX1_toss_0 1 rfl rfl)
theorem dX1_toss_2 : decode cX1_toss 2 = .ok (.invokevirtual 117, 3) := dk_182 0 117 (dk_at dksX1_toss_0 2 rfl rfl)
theorem dX1_toss_5 : decode cX1_toss 5 = .ok (.ifCond .ne 5, 3) := dk_154 0 5 (dk_at dksX1_toss_0 5 rfl rfl)
theorem dX1_toss_8 : decode cX1_toss 8 = .ok (.iconst (-1), 1) := dk_2 (dk_at dksX1_toss_0 8 rfl rfl)
theorem dX1_toss_9 : decode cX1_toss 9 = .ok (.ireturn, 1) := dk_172 (dk_at dksX1_toss_0 9 rfl rfl)
theorem dX1_toss_10 : decode cX1_toss 10 = .ok (.aload_n 0, 1) := dk_42 (dk_at dksX1_toss_0 10 rfl rfl)
theorem dX1_toss_11 : decode cX1_toss 11 = .ok (.getfield 120, 3) := dk_180 0 120 (dk_at dksX1_toss_0 11 rfl rfl)
theorem dX1_toss_14 : decode cX1_toss 14 = .ok (.iload_n 1, 1) := dk_27 (dk_at dksX1_toss_0 14 rfl rfl)
theorem dX1_toss_15 : decode cX1_toss 15 = .ok (.aaload, 1) := dk_50 (dk_at dksX1_toss_0 15 rfl rfl)
theorem dX1_toss_16 : decode cX1_toss 16 = .ok (.getfield 124, 3) := dk_180 0 124 (dk_at dksX1_toss_0 16 rfl rfl)
theorem dX1_toss_19 : decode cX1_toss 19 = .ok (.ifnonnull 6, 3) := dk_199 0 6 (dk_at dksX1_toss_0 19 rfl rfl)
theorem dX1_toss_22 : decode cX1_toss 22 = .ok (.bipush (-11), 2) := dk_16 245 (dk_at dksX1_toss_0 22 rfl rfl)
theorem dX1_toss_24 : decode cX1_toss 24 = .ok (.ireturn, 1) := dk_172 (dk_at dksX1_toss_1 0 rfl rfl)
theorem dX1_toss_25 : decode cX1_toss 25 = .ok (.aload_n 0, 1) := dk_42 (dk_at dksX1_toss_1 1 rfl rfl)
theorem dX1_toss_26 : decode cX1_toss 26 = .ok (.getfield 120, 3) := dk_180 0 120 (dk_at dksX1_toss_1 2 rfl rfl)
theorem dX1_toss_29 : decode cX1_toss 29 = .ok (.iload_n 1, 1) := dk_27 (dk_at dksX1_toss_1 5 rfl rfl)
theorem dX1_toss_30 : decode cX1_toss 30 = .ok (.aaload, 1) := dk_50 (dk_at dksX1_toss_1 6 rfl rfl)
theorem dX1_toss_31 : decode cX1_toss 31 = .ok (.getfield 124, 3) := dk_180 0 124 (dk_at dksX1_toss_1 7 rfl rfl)
theorem dX1_toss_34 : decode cX1_toss 34 = .ok (.checkcast 1, 3) := dk_192 0 1 (dk_at dksX1_toss_1 10 rfl rfl)
theorem dX1_toss_37 : decode cX1_toss 37 = .ok (.invokevirtual 332, 3) := dk_182 1 76 (dk_at dksX1_toss_1 13 rfl rfl)
theorem dX1_toss_40 : decode cX1_toss 40 = .ok (.athrow, 1) := dk_191 (dk_at dksX1_toss_1 16 rfl rfl)
theorem dX1_toss_41 : decode cX1_toss 41 = .ok (.astore_n 2, 1) := dk_77 (dk_at dksX1_toss_1 17 rfl rfl)
theorem dX1_toss_42 : decode cX1_toss 42 = .ok (.aload_n 2, 1) := dk_44 (dk_at dksX1_toss_1 18 rfl rfl)
theorem dX1_toss_43 : decode cX1_toss 43 = .ok (.getfield 338, 3) := dk_180 1 82 (dk_at dksX1_toss_1 19 rfl rfl)
theorem dX1_toss_46 : decode cX1_toss 46 = .ok (.ireturn, 1) := dk_172 (dk_at dksX1_toss_1 22 rfl rfl)
theorem dX1_toss_47 : decode cX1_toss 47 = .ok (.astore_n 2, 1) := dk_77 (dk_at dksX1_toss_1 23 rfl rfl)
theorem dX1_toss_48 : decode cX1_toss 48 = .ok (.bipush (-15), 2) := dk_16 241 (dk_at dksX1_toss_2 0 rfl rfl)
theorem dX1_toss_50 : decode cX1_toss 50 = .ok (.ireturn, 1) := dk_172 (dk_at dksX1_toss_2 2 rfl rfl)
theorem dX1_toss_51 : decode cX1_toss 51 = .ok (.astore_n 2, 1) := dk_77 (dk_at dksX1_toss_2 3 rfl rfl)
theorem dX1_toss_52 : decode cX1_toss 52 = .ok (.bipush (-12), 2) := dk_16 244 (dk_at dksX1_toss_2 4 rfl rfl)
theorem dX1_toss_54 : decode cX1_toss 54 = .ok (.ireturn, 1) := dk_172 (dk_at dksX1_toss_2 6 rfl rfl)
abbrev cX1_element : ByteArray := prog_1_method_67_code
def yX1_element : MethodName := ⟨RX1, "element", "(II)J"⟩
def dkwX1_element_4 : List UInt8 := [191]
abbrev dktX1_element_4 : List UInt8 := dkwX1_element_4 ++ []
def dkwX1_element_3 : List UInt8 := [89, 183, 1, 67, 191, 58, 4, 187, 1, 65, 89, 183, 1, 67, 191, 58, 4, 187, 1, 65, 89, 183, 1, 67]
abbrev dktX1_element_3 : List UInt8 := dkwX1_element_3 ++ dktX1_element_4
def dkwX1_element_2 : List UInt8 := [153, 0, 11, 45, 192, 0, 225, 28, 53, 133, 173, 45, 192, 0, 227, 28, 46, 133, 173, 58, 4, 187, 1, 65]
abbrev dktX1_element_2 : List UInt8 := dkwX1_element_2 ++ dktX1_element_3
def dkwX1_element_1 : List UInt8 := [180, 0, 124, 78, 45, 193, 0, 130, 153, 0, 11, 45, 192, 0, 130, 28, 51, 133, 173, 45, 193, 0, 225]
abbrev dktX1_element_1 : List UInt8 := dkwX1_element_1 ++ dktX1_element_2
def dkwX1_element_0 : List UInt8 := [42, 27, 182, 0, 117, 154, 0, 11, 187, 1, 60, 89, 183, 1, 62, 191, 42, 180, 0, 120, 27, 50]
abbrev dktX1_element_0 : List UInt8 := dkwX1_element_0 ++ dktX1_element_1
theorem dksX1_element_0 : cX1_element.data.toList.drop 0 = dktX1_element_0 := by decide +kernel
theorem dksX1_element_1 : cX1_element.data.toList.drop 22 = dktX1_element_1 := dk_seg dksX1_element_0 22 rfl rfl
theorem dksX1_element_2 : cX1_element.data.toList.drop 45 = dktX1_element_2 := dk_seg dksX1_element_1 23 rfl rfl
theorem dksX1_element_3 : cX1_element.data.toList.drop 69 = dktX1_element_3 := dk_seg dksX1_element_2 24 rfl rfl
theorem dksX1_element_4 : cX1_element.data.toList.drop 93 = dktX1_element_4 := dk_seg dksX1_element_3 24 rfl rfl
theorem dX1_element_0 : decode cX1_element 0 = .ok (.aload_n 0, 1) := dk_42 (dk_at dksX1_element_0 0 rfl rfl)
theorem dX1_element_1 : decode cX1_element 1 = .ok (.iload_n 1, 1) := dk_27 (dk_at dksX1_element_0 1 rfl rfl)
theorem dX1_element_2 : decode cX1_element 2 = .ok (.invokevirtual 117, 3) := dk_182 0 117 (dk_at dksX1_element_0 2 rfl rfl)
theorem dX1_element_5 : decode cX1_element 5 = .ok (.ifCond .ne 11, 3) := dk_154 0 11 (dk_at dksX1_element_0 5 rfl rfl)
theorem dX1_element_8 : decode cX1_element 8 = .ok (.new 316, 3) := dk_187 1 60 (dk_at dksX1_element_0 8 rfl rfl)
theorem dX1_element_11 : decode cX1_element 11 = .ok (.dup, 1) := dk_89 (dk_at dksX1_element_0 11 rfl rfl)
theorem dX1_element_12 : decode cX1_element 12 = .ok (.invokespecial 318, 3) := dk_183 1 62 (dk_at dksX1_element_0 12 rfl rfl)
theorem dX1_element_15 : decode cX1_element 15 = .ok (.athrow, 1) := dk_191 (dk_at dksX1_element_0 15 rfl rfl)
theorem dX1_element_16 : decode cX1_element 16 = .ok (.aload_n 0, 1) := dk_42 (dk_at dksX1_element_0 16 rfl rfl)
theorem dX1_element_17 : decode cX1_element 17 = .ok (.getfield 120, 3) := dk_180 0 120 (dk_at dksX1_element_0 17 rfl rfl)
theorem dX1_element_20 : decode cX1_element 20 = .ok (.iload_n 1, 1) := dk_27 (dk_at dksX1_element_0 20 rfl rfl)
theorem dX1_element_21 : decode cX1_element 21 = .ok (.aaload, 1) := dk_50 (dk_at dksX1_element_0 21 rfl rfl)
theorem dX1_element_22 : decode cX1_element 22 = .ok (.getfield 124, 3) := dk_180 0 124 (dk_at dksX1_element_1 0 rfl rfl)
theorem dX1_element_25 : decode cX1_element 25 = .ok (.astore_n 3, 1) := dk_78 (dk_at dksX1_element_1 3 rfl rfl)
theorem dX1_element_26 : decode cX1_element 26 = .ok (.aload_n 3, 1) := dk_45 (dk_at dksX1_element_1 4 rfl rfl)
theorem dX1_element_27 : decode cX1_element 27 = .ok (.instanceof 130, 3) := dk_193 0 130 (dk_at dksX1_element_1 5 rfl rfl)
theorem dX1_element_30 : decode cX1_element 30 = .ok (.ifCond .eq 11, 3) := dk_153 0 11 (dk_at dksX1_element_1 8 rfl rfl)
theorem dX1_element_33 : decode cX1_element 33 = .ok (.aload_n 3, 1) := dk_45 (dk_at dksX1_element_1 11 rfl rfl)
theorem dX1_element_34 : decode cX1_element 34 = .ok (.checkcast 130, 3) := dk_192 0 130 (dk_at dksX1_element_1 12 rfl rfl)
theorem dX1_element_37 : decode cX1_element 37 = .ok (.iload_n 2, 1) := dk_28 (dk_at dksX1_element_1 15 rfl rfl)
theorem dX1_element_38 : decode cX1_element 38 = .ok (.baload, 1) := dk_51 (dk_at dksX1_element_1 16 rfl rfl)
theorem dX1_element_39 : decode cX1_element 39 = .ok (.i2l, 1) := dk_133 (dk_at dksX1_element_1 17 rfl rfl)
theorem dX1_element_40 : decode cX1_element 40 = .ok (.lreturn, 1) := dk_173 (dk_at dksX1_element_1 18 rfl rfl)
theorem dX1_element_41 : decode cX1_element 41 = .ok (.aload_n 3, 1) := dk_45 (dk_at dksX1_element_1 19 rfl rfl)
theorem dX1_element_42 : decode cX1_element 42 = .ok (.instanceof 225, 3) := dk_193 0 225 (dk_at dksX1_element_1 20 rfl rfl)
theorem dX1_element_45 : decode cX1_element 45 = .ok (.ifCond .eq 11, 3) := dk_153 0 11 (dk_at dksX1_element_2 0 rfl rfl)
theorem dX1_element_48 : decode cX1_element 48 = .ok (.aload_n 3, 1) := dk_45 (dk_at dksX1_element_2 3 rfl rfl)
theorem dX1_element_49 : decode cX1_element 49 = .ok (.checkcast 225, 3) := dk_192 0 225 (dk_at dksX1_element_2 4 rfl rfl)
theorem dX1_element_52 : decode cX1_element 52 = .ok (.iload_n 2, 1) := dk_28 (dk_at dksX1_element_2 7 rfl rfl)
theorem dX1_element_53 : decode cX1_element 53 = .ok (.saload, 1) := dk_53 (dk_at dksX1_element_2 8 rfl rfl)
theorem dX1_element_54 : decode cX1_element 54 = .ok (.i2l, 1) := dk_133 (dk_at dksX1_element_2 9 rfl rfl)
theorem dX1_element_55 : decode cX1_element 55 = .ok (.lreturn, 1) := dk_173 (dk_at dksX1_element_2 10 rfl rfl)
theorem dX1_element_56 : decode cX1_element 56 = .ok (.aload_n 3, 1) := dk_45 (dk_at dksX1_element_2 11 rfl rfl)
theorem dX1_element_57 : decode cX1_element 57 = .ok (.checkcast 227, 3) := dk_192 0 227 (dk_at dksX1_element_2 12 rfl rfl)
theorem dX1_element_60 : decode cX1_element 60 = .ok (.iload_n 2, 1) := dk_28 (dk_at dksX1_element_2 15 rfl rfl)
theorem dX1_element_61 : decode cX1_element 61 = .ok (.iaload, 1) := dk_46 (dk_at dksX1_element_2 16 rfl rfl)
theorem dX1_element_62 : decode cX1_element 62 = .ok (.i2l, 1) := dk_133 (dk_at dksX1_element_2 17 rfl rfl)
theorem dX1_element_63 : decode cX1_element 63 = .ok (.lreturn, 1) := dk_173 (dk_at dksX1_element_2 18 rfl rfl)
theorem dX1_element_64 : decode cX1_element 64 = .ok (.astore 4, 2) := dk_58 4 (dk_at dksX1_element_2 19 rfl rfl)
theorem dX1_element_66 : decode cX1_element 66 = .ok (.new 321, 3) := dk_187 1 65 (dk_at dksX1_element_2 21 rfl rfl)
theorem dX1_element_69 : decode cX1_element 69 = .ok (.dup, 1) := dk_89 (dk_at dksX1_element_3 0 rfl rfl)
theorem dX1_element_70 : decode cX1_element 70 = .ok (.invokespecial 323, 3) := dk_183 1 67 (dk_at dksX1_element_3 1 rfl rfl)
theorem dX1_element_73 : decode cX1_element 73 = .ok (.athrow, 1) := dk_191 (dk_at dksX1_element_3 4 rfl rfl)
theorem dX1_element_74 : decode cX1_element 74 = .ok (.astore 4, 2) := dk_58 4 (dk_at dksX1_element_3 5 rfl rfl)
theorem dX1_element_76 : decode cX1_element 76 = .ok (.new 321, 3) := dk_187 1 65 (dk_at dksX1_element_3 7 rfl rfl)
theorem dX1_element_79 : decode cX1_element 79 = .ok (.dup, 1) := dk_89 (dk_at dksX1_element_3 10 rfl rfl)
theorem dX1_element_80 : decode cX1_element 80 = .ok (.invokespecial 323, 3) := dk_183 1 67 (dk_at dksX1_element_3 11 rfl rfl)
theorem dX1_element_83 : decode cX1_element 83 = .ok (.athrow, 1) := dk_191 (dk_at dksX1_element_3 14 rfl rfl)
theorem dX1_element_84 : decode cX1_element 84 = .ok (.astore 4, 2) := dk_58 4 (dk_at dksX1_element_3 15 rfl rfl)
theorem dX1_element_86 : decode cX1_element 86 = .ok (.new 321, 3) := dk_187 1 65 (dk_at dksX1_element_3 17 rfl rfl)
theorem dX1_element_89 : decode cX1_element 89 = .ok (.dup, 1) := dk_89 (dk_at dksX1_element_3 20 rfl rfl)
theorem dX1_element_90 : decode cX1_element 90 = .ok (.invokespecial 323, 3) := dk_183 1 67 (dk_at dksX1_element_3 21 rfl rfl)
theorem dX1_element_93 : decode cX1_element 93 = .ok (.athrow, 1) := dk_191 (dk_at dksX1_element_4 0 rfl rfl)
theorem q58 : (Jvm.Cond.initialized "HiredByLonging") ∈ lw_all := lw_g (lw_at lw_m1 1 rfl) rfl
theorem q89 : (Jvm.Cond.instanceMethod ({ cls := "HiredByLonging", name := "land", desc := "(I)I" } : Jvm.MethodName)) ∈ lw_all := lw_g (lw_at lw_m1 32 rfl) rfl
theorem q90 : (Jvm.Cond.selects "HiredByLonging" ({ cls := "HiredByLonging", name := "land", desc := "(I)I" } : Jvm.MethodName) ({ cls := "HiredByLonging", name := "land", desc := "(I)I" } : Jvm.MethodName)) ∈ lw_all := lw_g (lw_at lw_m1 33 rfl) rfl
theorem q91 : (Jvm.Cond.codeWith ({ cls := "HiredByLonging", name := "land", desc := "(I)I" } : Jvm.MethodName) prog_1_method_11_code (3 : Nat) (Option.some Jvm.ClassFile.FieldType.int) [((10 : Nat), (37 : Nat), (38 : Nat), (136 : Nat)), ((10 : Nat), (37 : Nat), (42 : Nat), (111 : Nat))]) ∈ lw_all := lw_g (lw_at lw_m1 34 rfl) rfl
theorem q92 : (Jvm.Cond.classLink "HiredByLonging" (136 : Nat) "java/lang/ClassCastException") ∈ lw_all := lw_g (lw_at lw_m1 35 rfl) rfl
theorem q183 : (Jvm.Cond.classLink "HiredByLonging" (111 : Nat) "HiredByLonging$Broken") ∈ lw_all := lw_g (lw_at lw_m1 126 rfl) rfl
theorem q184 : (Jvm.Cond.methodLink "HiredByLonging" (117 : Nat) ({ cls := "HiredByLonging", name := "isShelf", desc := "(I)Z" } : Jvm.MethodName)) ∈ lw_all := lw_g (lw_at lw_m1 127 rfl) rfl
theorem q185 : (Jvm.Cond.privateMethod ({ cls := "HiredByLonging", name := "isShelf", desc := "(I)Z" } : Jvm.MethodName)) ∈ lw_tbl := lw_at lw_m1 128 rfl
theorem q186 : (Jvm.Cond.instanceMethod ({ cls := "HiredByLonging", name := "isShelf", desc := "(I)Z" } : Jvm.MethodName)) ∈ lw_all := lw_g (lw_at lw_m1 129 rfl) rfl
theorem q187 : (Jvm.Cond.instantiable "HiredByLonging" (10 : Nat)) ∈ lw_all := lw_g (lw_at lw_m1 130 rfl) rfl
theorem q188 : (Jvm.Cond.code ({ cls := "HiredByLonging", name := "isShelf", desc := "(I)Z" } : Jvm.MethodName) prog_1_method_4_code (2 : Nat) (Option.some Jvm.ClassFile.FieldType.boolean)) ∈ lw_all := lw_g (lw_at lw_m1 131 rfl) rfl
theorem q189 : (Jvm.Cond.methodLink "HiredByLonging" (30 : Nat) ({ cls := "HiredByLonging", name := "isIn", desc := "(III)Z" } : Jvm.MethodName)) ∈ lw_all := lw_g (lw_at lw_m1 132 rfl) rfl
theorem q190 : (Jvm.Cond.static ({ cls := "HiredByLonging", name := "isIn", desc := "(III)Z" } : Jvm.MethodName)) ∈ lw_all := lw_g (lw_at lw_m1 133 rfl) rfl
theorem q191 : (Jvm.Cond.code ({ cls := "HiredByLonging", name := "isIn", desc := "(III)Z" } : Jvm.MethodName) prog_1_method_1_code (3 : Nat) (Option.some Jvm.ClassFile.FieldType.boolean)) ∈ lw_all := lw_g (lw_at lw_m1 134 rfl) rfl
theorem q192 : (Jvm.Cond.classLink "HiredByLonging" (130 : Nat) "[B") ∈ lw_all := lw_g (lw_at lw_m1 135 rfl) rfl
theorem q193 : (Jvm.Cond.methodLink "HiredByLonging" (132 : Nat) ({ cls := "HiredByLonging", name := "reads", desc := "([B)I" } : Jvm.MethodName)) ∈ lw_all := lw_g (lw_at lw_m1 136 rfl) rfl
theorem q194 : (Jvm.Cond.privateMethod ({ cls := "HiredByLonging", name := "reads", desc := "([B)I" } : Jvm.MethodName)) ∈ lw_tbl := lw_at lw_m1 137 rfl
theorem q195 : (Jvm.Cond.instanceMethod ({ cls := "HiredByLonging", name := "reads", desc := "([B)I" } : Jvm.MethodName)) ∈ lw_all := lw_g (lw_at lw_m1 138 rfl) rfl
theorem q196 : (Jvm.Cond.code ({ cls := "HiredByLonging", name := "reads", desc := "([B)I" } : Jvm.MethodName) prog_1_method_10_code (4 : Nat) (Option.some Jvm.ClassFile.FieldType.int)) ∈ lw_all := lw_g (lw_at lw_m1 139 rfl) rfl
theorem q197 : (Jvm.Cond.classLink "HiredByLonging" (88 : Nat) "HiredByLonging$LandReader") ∈ lw_all := lw_g (lw_at lw_m1 140 rfl) rfl
theorem q199 : (Jvm.Cond.methodLink "HiredByLonging" (90 : Nat) ({ cls := "HiredByLonging$LandReader", name := "<init>", desc := "([B)V" } : Jvm.MethodName)) ∈ lw_all := lw_g (lw_at lw_m1 142 rfl) rfl
theorem q210 : (Jvm.Cond.methodLink "HiredByLonging" (97 : Nat) ({ cls := "HiredByLonging$LandReader", name := "whole", desc := "([LHiredByLonging$Told;)I" } : Jvm.MethodName)) ∈ lw_all := lw_g (lw_at lw_m1 153 rfl) rfl
theorem q230 : (Jvm.Cond.fieldLink "HiredByLonging" (62 : Nat) "HiredByLonging$Told" "letter" "I") ∈ lw_all := lw_g (lw_at lw_m1 173 rfl) rfl
theorem q232 : (Jvm.Cond.fieldLink "HiredByLonging" (113 : Nat) "HiredByLonging$Told" "at" "I") ∈ lw_all := lw_g (lw_at lw_m1 175 rfl) rfl
theorem q234 : (Jvm.Cond.fieldLink "HiredByLonging" (56 : Nat) "HiredByLonging$Told" "numbers" "[I") ∈ lw_all := lw_g (lw_at lw_m1 177 rfl) rfl
theorem q276 : (Jvm.Cond.fieldLink "HiredByLonging" (138 : Nat) "HiredByLonging$Broken" "code" "I") ∈ lw_all := lw_g (lw_at lw_m1 219 rfl) rfl
theorem q285 : (Jvm.Cond.methodLink "HiredByLonging" (104 : Nat) ({ cls := "HiredByLonging$Land", name := "takes", desc := "(LHiredByLonging$Land;)V" } : Jvm.MethodName)) ∈ lw_all := lw_g (lw_at lw_m1 228 rfl) rfl
theorem q295 : (Jvm.Cond.methodLink "HiredByLonging" (108 : Nat) ({ cls := "HiredByLonging", name := "comes", desc := "(LHiredByLonging$Told;)Z" } : Jvm.MethodName)) ∈ lw_all := lw_g (lw_at lw_m1 238 rfl) rfl
theorem q296 : (Jvm.Cond.privateMethod ({ cls := "HiredByLonging", name := "comes", desc := "(LHiredByLonging$Told;)Z" } : Jvm.MethodName)) ∈ lw_tbl := lw_at lw_m1 239 rfl
theorem q297 : (Jvm.Cond.instanceMethod ({ cls := "HiredByLonging", name := "comes", desc := "(LHiredByLonging$Told;)Z" } : Jvm.MethodName)) ∈ lw_all := lw_g (lw_at lw_m2 0 rfl) rfl
theorem q298 : (Jvm.Cond.code ({ cls := "HiredByLonging", name := "comes", desc := "(LHiredByLonging$Told;)Z" } : Jvm.MethodName) prog_1_method_9_code (3 : Nat) (Option.some Jvm.ClassFile.FieldType.boolean)) ∈ lw_all := lw_g (lw_at lw_m2 1 rfl) rfl
theorem q299 : (Jvm.Cond.methodLink "HiredByLonging" (65 : Nat) ({ cls := "HiredByLonging", name := "comesHorse", desc := "([I)Z" } : Jvm.MethodName)) ∈ lw_all := lw_g (lw_at lw_m2 2 rfl) rfl
theorem q300 : (Jvm.Cond.privateMethod ({ cls := "HiredByLonging", name := "comesHorse", desc := "([I)Z" } : Jvm.MethodName)) ∈ lw_tbl := lw_at lw_m2 3 rfl
theorem q301 : (Jvm.Cond.instanceMethod ({ cls := "HiredByLonging", name := "comesHorse", desc := "([I)Z" } : Jvm.MethodName)) ∈ lw_all := lw_g (lw_at lw_m2 4 rfl) rfl
theorem q302 : (Jvm.Cond.code ({ cls := "HiredByLonging", name := "comesHorse", desc := "([I)Z" } : Jvm.MethodName) prog_1_method_8_code (2 : Nat) (Option.some Jvm.ClassFile.FieldType.boolean)) ∈ lw_all := lw_g (lw_at lw_m2 5 rfl) rfl
theorem q303 : (Jvm.Cond.methodLink "HiredByLonging" (34 : Nat) ({ cls := "HiredByLonging", name := "isYard", desc := "(I)Z" } : Jvm.MethodName)) ∈ lw_all := lw_g (lw_at lw_m2 6 rfl) rfl
theorem q304 : (Jvm.Cond.static ({ cls := "HiredByLonging", name := "isYard", desc := "(I)Z" } : Jvm.MethodName)) ∈ lw_all := lw_g (lw_at lw_m2 7 rfl) rfl
theorem q305 : (Jvm.Cond.code ({ cls := "HiredByLonging", name := "isYard", desc := "(I)Z" } : Jvm.MethodName) prog_1_method_5_code (1 : Nat) (Option.some Jvm.ClassFile.FieldType.boolean)) ∈ lw_all := lw_g (lw_at lw_m2 8 rfl) rfl
theorem q306 : (Jvm.Cond.methodLink "HiredByLonging" (48 : Nat) ({ cls := "HiredByLonging", name := "horseOf", desc := "(II)LHiredByLonging$Horse;" } : Jvm.MethodName)) ∈ lw_all := lw_g (lw_at lw_m2 9 rfl) rfl
theorem q307 : (Jvm.Cond.static ({ cls := "HiredByLonging", name := "horseOf", desc := "(II)LHiredByLonging$Horse;" } : Jvm.MethodName)) ∈ lw_all := lw_g (lw_at lw_m2 10 rfl) rfl
theorem q308 : (Jvm.Cond.code ({ cls := "HiredByLonging", name := "horseOf", desc := "(II)LHiredByLonging$Horse;" } : Jvm.MethodName) prog_1_method_3_code (2 : Nat) (Option.some (Jvm.ClassFile.FieldType.object "HiredByLonging$Horse"))) ∈ lw_all := lw_g (lw_at lw_m2 11 rfl) rfl
theorem q309 : (Jvm.Cond.classLink "HiredByLonging" (1 : Nat) "HiredByLonging$Horse") ∈ lw_all := lw_g (lw_at lw_m2 12 rfl) rfl
theorem q311 : (Jvm.Cond.methodLink "HiredByLonging" (3 : Nat) ({ cls := "HiredByLonging$Horse", name := "<init>", desc := "(I)V" } : Jvm.MethodName)) ∈ lw_all := lw_g (lw_at lw_m2 14 rfl) rfl
theorem q324 : (Jvm.Cond.fieldLink "HiredByLonging" (149 : Nat) "HiredByLonging$Horse" "figure" "I") ∈ lw_all := lw_g (lw_at lw_m2 27 rfl) rfl
theorem q328 : (Jvm.Cond.classLink "HiredByLonging" (7 : Nat) "HiredByLonging$Content") ∈ lw_all := lw_g (lw_at lw_m2 31 rfl) rfl
theorem q330 : (Jvm.Cond.methodLink "HiredByLonging" (9 : Nat) ({ cls := "HiredByLonging$Content", name := "<init>", desc := "(I)V" } : Jvm.MethodName)) ∈ lw_all := lw_g (lw_at lw_m2 33 rfl) rfl
theorem q336 : (Jvm.Cond.classLink "HiredByLonging" (10 : Nat) "HiredByLonging$Blind") ∈ lw_all := lw_g (lw_at lw_m2 39 rfl) rfl
theorem q338 : (Jvm.Cond.methodLink "HiredByLonging" (12 : Nat) ({ cls := "HiredByLonging$Blind", name := "<init>", desc := "(I)V" } : Jvm.MethodName)) ∈ lw_all := lw_g (lw_at lw_m2 41 rfl) rfl
theorem q344 : (Jvm.Cond.classLink "HiredByLonging" (13 : Nat) "HiredByLonging$Two") ∈ lw_all := lw_g (lw_at lw_m2 47 rfl) rfl
theorem q346 : (Jvm.Cond.methodLink "HiredByLonging" (15 : Nat) ({ cls := "HiredByLonging$Two", name := "<init>", desc := "(I)V" } : Jvm.MethodName)) ∈ lw_all := lw_g (lw_at lw_m2 49 rfl) rfl
theorem q352 : (Jvm.Cond.classLink "HiredByLonging" (16 : Nat) "HiredByLonging$Drowned") ∈ lw_all := lw_g (lw_at lw_m2 55 rfl) rfl
theorem q354 : (Jvm.Cond.methodLink "HiredByLonging" (18 : Nat) ({ cls := "HiredByLonging$Drowned", name := "<init>", desc := "(I)V" } : Jvm.MethodName)) ∈ lw_all := lw_g (lw_at lw_m2 57 rfl) rfl
theorem q360 : (Jvm.Cond.classLink "HiredByLonging" (19 : Nat) "HiredByLonging$Foal") ∈ lw_all := lw_g (lw_at lw_m2 63 rfl) rfl
theorem q362 : (Jvm.Cond.methodLink "HiredByLonging" (21 : Nat) ({ cls := "HiredByLonging$Foal", name := "<init>", desc := "(I)V" } : Jvm.MethodName)) ∈ lw_all := lw_g (lw_at lw_m2 65 rfl) rfl
theorem q368 : (Jvm.Cond.classLink "HiredByLonging" (22 : Nat) "HiredByLonging$Mare") ∈ lw_all := lw_g (lw_at lw_m2 71 rfl) rfl
theorem q370 : (Jvm.Cond.methodLink "HiredByLonging" (24 : Nat) ({ cls := "HiredByLonging$Mare", name := "<init>", desc := "(I)V" } : Jvm.MethodName)) ∈ lw_all := lw_g (lw_at lw_m2 73 rfl) rfl
theorem q376 : (Jvm.Cond.classLink "HiredByLonging" (25 : Nat) "HiredByLonging$Gelding") ∈ lw_all := lw_g (lw_at lw_m2 79 rfl) rfl
theorem q378 : (Jvm.Cond.methodLink "HiredByLonging" (27 : Nat) ({ cls := "HiredByLonging$Gelding", name := "<init>", desc := "(I)V" } : Jvm.MethodName)) ∈ lw_all := lw_g (lw_at lw_m2 81 rfl) rfl
theorem q384 : (Jvm.Cond.methodLink "HiredByLonging" (52 : Nat) ({ cls := "HiredByLonging$Land", name := "comes", desc := "(LHiredByLonging$Horse;II)I" } : Jvm.MethodName)) ∈ lw_all := lw_g (lw_at lw_m2 87 rfl) rfl
theorem q388 : (Jvm.Cond.methodLink "HiredByLonging" (69 : Nat) ({ cls := "HiredByLonging$Land", name := "isHorse", desc := "(I)Z" } : Jvm.MethodName)) ∈ lw_all := lw_g (lw_at lw_m2 91 rfl) rfl
theorem q393 : (Jvm.Cond.methodLink "HiredByLonging" (72 : Nat) ({ cls := "HiredByLonging$Land", name := "rides", desc := "(II)I" } : Jvm.MethodName)) ∈ lw_all := lw_g (lw_at lw_m2 96 rfl) rfl
theorem q532 : (Jvm.Cond.methodLink "HiredByLonging" (85 : Nat) ({ cls := "HiredByLonging$Land", name := "goes", desc := "(I)V" } : Jvm.MethodName)) ∈ lw_all := lw_g (lw_at lw_m2 235 rfl) rfl
theorem q536 : (Jvm.Cond.methodLink "HiredByLonging" (116 : Nat) ({ cls := "HiredByLonging$Broken", name := "<init>", desc := "(I)V" } : Jvm.MethodName)) ∈ lw_all := lw_g (lw_at lw_m2 239 rfl) rfl
theorem q538 : (Jvm.Cond.instanceMethod ({ cls := "HiredByLonging", name := "horse", desc := "(II)I" } : Jvm.MethodName)) ∈ lw_all := lw_g (lw_at lw_m3 1 rfl) rfl
theorem q539 : (Jvm.Cond.selects "HiredByLonging" ({ cls := "HiredByLonging", name := "horse", desc := "(II)I" } : Jvm.MethodName) ({ cls := "HiredByLonging", name := "horse", desc := "(II)I" } : Jvm.MethodName)) ∈ lw_all := lw_g (lw_at lw_m3 2 rfl) rfl
theorem q540 : (Jvm.Cond.code ({ cls := "HiredByLonging", name := "horse", desc := "(II)I" } : Jvm.MethodName) prog_1_method_12_code (4 : Nat) (Option.some Jvm.ClassFile.FieldType.int)) ∈ lw_all := lw_g (lw_at lw_m3 3 rfl) rfl
theorem q541 : (Jvm.Cond.methodLink "HiredByLonging" (145 : Nat) ({ cls := "HiredByLonging$Horse", name := "kind", desc := "()I" } : Jvm.MethodName)) ∈ lw_all := lw_g (lw_at lw_m3 4 rfl) rfl
theorem q567 : (Jvm.Cond.methodLink "HiredByLonging" (157 : Nat) ({ cls := "HiredByLonging$Land", name := "goal", desc := "(I)I" } : Jvm.MethodName)) ∈ lw_all := lw_g (lw_at lw_m3 30 rfl) rfl
theorem q568 : (Jvm.Cond.methodLink "HiredByLonging" (161 : Nat) ({ cls := "HiredByLonging$Land", name := "pace", desc := "(I)I" } : Jvm.MethodName)) ∈ lw_all := lw_g (lw_at lw_m3 31 rfl) rfl
theorem q570 : (Jvm.Cond.instanceMethod ({ cls := "HiredByLonging", name := "comes", desc := "(III)I" } : Jvm.MethodName)) ∈ lw_all := lw_g (lw_at lw_m3 33 rfl) rfl
theorem q571 : (Jvm.Cond.selects "HiredByLonging" ({ cls := "HiredByLonging", name := "comes", desc := "(III)I" } : Jvm.MethodName) ({ cls := "HiredByLonging", name := "comes", desc := "(III)I" } : Jvm.MethodName)) ∈ lw_all := lw_g (lw_at lw_m3 34 rfl) rfl
theorem q572 : (Jvm.Cond.codeWith ({ cls := "HiredByLonging", name := "comes", desc := "(III)I" } : Jvm.MethodName) prog_1_method_13_code (5 : Nat) (Option.some Jvm.ClassFile.FieldType.int) [((24 : Nat), (45 : Nat), (75 : Nat), (136 : Nat)), ((46 : Nat), (74 : Nat), (75 : Nat), (136 : Nat))]) ∈ lw_all := lw_g (lw_at lw_m3 35 rfl) rfl
theorem q574 : (Jvm.Cond.instanceMethod ({ cls := "HiredByLonging", name := "rides", desc := "(II)I" } : Jvm.MethodName)) ∈ lw_all := lw_g (lw_at lw_m3 37 rfl) rfl
theorem q575 : (Jvm.Cond.selects "HiredByLonging" ({ cls := "HiredByLonging", name := "rides", desc := "(II)I" } : Jvm.MethodName) ({ cls := "HiredByLonging", name := "rides", desc := "(II)I" } : Jvm.MethodName)) ∈ lw_all := lw_g (lw_at lw_m3 38 rfl) rfl
theorem q576 : (Jvm.Cond.code ({ cls := "HiredByLonging", name := "rides", desc := "(II)I" } : Jvm.MethodName) prog_1_method_15_code (4 : Nat) (Option.some Jvm.ClassFile.FieldType.int)) ∈ lw_all := lw_g (lw_at lw_m3 39 rfl) rfl
theorem q577 : (Jvm.Cond.methodLink "HiredByLonging" (167 : Nat) ({ cls := "HiredByLonging", name := "minds", desc := "()V" } : Jvm.MethodName)) ∈ lw_all := lw_g (lw_at lw_m3 40 rfl) rfl
theorem q578 : (Jvm.Cond.privateMethod ({ cls := "HiredByLonging", name := "minds", desc := "()V" } : Jvm.MethodName)) ∈ lw_tbl := lw_at lw_m3 41 rfl
theorem q579 : (Jvm.Cond.instanceMethod ({ cls := "HiredByLonging", name := "minds", desc := "()V" } : Jvm.MethodName)) ∈ lw_all := lw_g (lw_at lw_m3 42 rfl) rfl
theorem q580 : (Jvm.Cond.code ({ cls := "HiredByLonging", name := "minds", desc := "()V" } : Jvm.MethodName) prog_1_method_14_code (1 : Nat) (Option.none : Option Jvm.ClassFile.FieldType)) ∈ lw_all := lw_g (lw_at lw_m3 43 rfl) rfl
theorem q582 : (Jvm.Cond.instanceMethod ({ cls := "HiredByLonging", name := "taken", desc := "(II)I" } : Jvm.MethodName)) ∈ lw_all := lw_g (lw_at lw_m3 45 rfl) rfl
theorem q583 : (Jvm.Cond.selects "HiredByLonging" ({ cls := "HiredByLonging", name := "taken", desc := "(II)I" } : Jvm.MethodName) ({ cls := "HiredByLonging", name := "taken", desc := "(II)I" } : Jvm.MethodName)) ∈ lw_all := lw_g (lw_at lw_m3 46 rfl) rfl
theorem q584 : (Jvm.Cond.code ({ cls := "HiredByLonging", name := "taken", desc := "(II)I" } : Jvm.MethodName) prog_1_method_16_code (4 : Nat) (Option.some Jvm.ClassFile.FieldType.int)) ∈ lw_all := lw_g (lw_at lw_m3 47 rfl) rfl
theorem q586 : (Jvm.Cond.instanceMethod ({ cls := "HiredByLonging", name := "longs", desc := "(II)I" } : Jvm.MethodName)) ∈ lw_all := lw_g (lw_at lw_m3 49 rfl) rfl
theorem q587 : (Jvm.Cond.selects "HiredByLonging" ({ cls := "HiredByLonging", name := "longs", desc := "(II)I" } : Jvm.MethodName) ({ cls := "HiredByLonging", name := "longs", desc := "(II)I" } : Jvm.MethodName)) ∈ lw_all := lw_g (lw_at lw_m3 50 rfl) rfl
theorem q588 : (Jvm.Cond.code ({ cls := "HiredByLonging", name := "longs", desc := "(II)I" } : Jvm.MethodName) prog_1_method_17_code (4 : Nat) (Option.some Jvm.ClassFile.FieldType.int)) ∈ lw_all := lw_g (lw_at lw_m3 51 rfl) rfl
theorem q590 : (Jvm.Cond.instanceMethod ({ cls := "HiredByLonging", name := "hangs", desc := "(I)I" } : Jvm.MethodName)) ∈ lw_all := lw_g (lw_at lw_m3 53 rfl) rfl
theorem q591 : (Jvm.Cond.selects "HiredByLonging" ({ cls := "HiredByLonging", name := "hangs", desc := "(I)I" } : Jvm.MethodName) ({ cls := "HiredByLonging", name := "hangs", desc := "(I)I" } : Jvm.MethodName)) ∈ lw_all := lw_g (lw_at lw_m3 54 rfl) rfl
theorem q592 : (Jvm.Cond.code ({ cls := "HiredByLonging", name := "hangs", desc := "(I)I" } : Jvm.MethodName) prog_1_method_18_code (3 : Nat) (Option.some Jvm.ClassFile.FieldType.int)) ∈ lw_all := lw_g (lw_at lw_m3 55 rfl) rfl
theorem q594 : (Jvm.Cond.instanceMethod ({ cls := "HiredByLonging", name := "days", desc := "(I)I" } : Jvm.MethodName)) ∈ lw_all := lw_g (lw_at lw_m3 57 rfl) rfl
theorem q595 : (Jvm.Cond.selects "HiredByLonging" ({ cls := "HiredByLonging", name := "days", desc := "(I)I" } : Jvm.MethodName) ({ cls := "HiredByLonging", name := "days", desc := "(I)I" } : Jvm.MethodName)) ∈ lw_all := lw_g (lw_at lw_m3 58 rfl) rfl
theorem q596 : (Jvm.Cond.code ({ cls := "HiredByLonging", name := "days", desc := "(I)I" } : Jvm.MethodName) prog_1_method_19_code (2 : Nat) (Option.some Jvm.ClassFile.FieldType.int)) ∈ lw_all := lw_g (lw_at lw_m3 59 rfl) rfl
theorem q597 : (Jvm.Cond.methodLink "HiredByLonging" (171 : Nat) ({ cls := "HiredByLonging$Land", name := "allLonging", desc := "()I" } : Jvm.MethodName)) ∈ lw_all := lw_g (lw_at lw_m3 60 rfl) rfl
theorem q602 : (Jvm.Cond.instanceMethod ({ cls := "HiredByLonging", name := "howLong", desc := "(II)I" } : Jvm.MethodName)) ∈ lw_all := lw_g (lw_at lw_m3 65 rfl) rfl
theorem q603 : (Jvm.Cond.selects "HiredByLonging" ({ cls := "HiredByLonging", name := "howLong", desc := "(II)I" } : Jvm.MethodName) ({ cls := "HiredByLonging", name := "howLong", desc := "(II)I" } : Jvm.MethodName)) ∈ lw_all := lw_g (lw_at lw_m3 66 rfl) rfl
theorem q604 : (Jvm.Cond.code ({ cls := "HiredByLonging", name := "howLong", desc := "(II)I" } : Jvm.MethodName) prog_1_method_21_code (3 : Nat) (Option.some Jvm.ClassFile.FieldType.int)) ∈ lw_all := lw_g (lw_at lw_m3 67 rfl) rfl
theorem q605 : (Jvm.Cond.methodLink "HiredByLonging" (174 : Nat) ({ cls := "HiredByLonging", name := "takesBehind", desc := "(III)I" } : Jvm.MethodName)) ∈ lw_all := lw_g (lw_at lw_m3 68 rfl) rfl
theorem q606 : (Jvm.Cond.privateMethod ({ cls := "HiredByLonging", name := "takesBehind", desc := "(III)I" } : Jvm.MethodName)) ∈ lw_tbl := lw_at lw_m3 69 rfl
theorem q607 : (Jvm.Cond.instanceMethod ({ cls := "HiredByLonging", name := "takesBehind", desc := "(III)I" } : Jvm.MethodName)) ∈ lw_all := lw_g (lw_at lw_m3 70 rfl) rfl
theorem q608 : (Jvm.Cond.code ({ cls := "HiredByLonging", name := "takesBehind", desc := "(III)I" } : Jvm.MethodName) prog_1_method_20_code (4 : Nat) (Option.some Jvm.ClassFile.FieldType.int)) ∈ lw_all := lw_g (lw_at lw_m3 71 rfl) rfl
theorem q610 : (Jvm.Cond.instanceMethod ({ cls := "HiredByLonging", name := "behind", desc := "(III)I" } : Jvm.MethodName)) ∈ lw_all := lw_g (lw_at lw_m3 73 rfl) rfl
theorem q611 : (Jvm.Cond.selects "HiredByLonging" ({ cls := "HiredByLonging", name := "behind", desc := "(III)I" } : Jvm.MethodName) ({ cls := "HiredByLonging", name := "behind", desc := "(III)I" } : Jvm.MethodName)) ∈ lw_all := lw_g (lw_at lw_m3 74 rfl) rfl
theorem q612 : (Jvm.Cond.code ({ cls := "HiredByLonging", name := "behind", desc := "(III)I" } : Jvm.MethodName) prog_1_method_22_code (4 : Nat) (Option.some Jvm.ClassFile.FieldType.int)) ∈ lw_all := lw_g (lw_at lw_m3 75 rfl) rfl
theorem q613 : (Jvm.Cond.methodLink "HiredByLonging" (178 : Nat) ({ cls := "HiredByLonging", name := "isLong", desc := "(I)Z" } : Jvm.MethodName)) ∈ lw_all := lw_g (lw_at lw_m3 76 rfl) rfl
theorem q614 : (Jvm.Cond.static ({ cls := "HiredByLonging", name := "isLong", desc := "(I)Z" } : Jvm.MethodName)) ∈ lw_all := lw_g (lw_at lw_m3 77 rfl) rfl
theorem q615 : (Jvm.Cond.code ({ cls := "HiredByLonging", name := "isLong", desc := "(I)Z" } : Jvm.MethodName) prog_1_method_7_code (1 : Nat) (Option.some Jvm.ClassFile.FieldType.boolean)) ∈ lw_all := lw_g (lw_at lw_m3 78 rfl) rfl
theorem q617 : (Jvm.Cond.instanceMethod ({ cls := "HiredByLonging", name := "chain", desc := "(III)I" } : Jvm.MethodName)) ∈ lw_all := lw_g (lw_at lw_m3 80 rfl) rfl
theorem q618 : (Jvm.Cond.selects "HiredByLonging" ({ cls := "HiredByLonging", name := "chain", desc := "(III)I" } : Jvm.MethodName) ({ cls := "HiredByLonging", name := "chain", desc := "(III)I" } : Jvm.MethodName)) ∈ lw_all := lw_g (lw_at lw_m3 81 rfl) rfl
theorem q619 : (Jvm.Cond.code ({ cls := "HiredByLonging", name := "chain", desc := "(III)I" } : Jvm.MethodName) prog_1_method_25_code (4 : Nat) (Option.some Jvm.ClassFile.FieldType.int)) ∈ lw_all := lw_g (lw_at lw_m3 82 rfl) rfl
theorem q620 : (Jvm.Cond.constant "HiredByLonging" (203 : Nat) (1000000000 : Int32)) ∈ lw_all := lw_g (lw_at lw_m3 83 rfl) rfl
theorem q621 : (Jvm.Cond.methodLink "HiredByLonging" (199 : Nat) ({ cls := "HiredByLonging", name := "chainsFrom", desc := "(IIIIII)V" } : Jvm.MethodName)) ∈ lw_all := lw_g (lw_at lw_m3 84 rfl) rfl
theorem q622 : (Jvm.Cond.privateMethod ({ cls := "HiredByLonging", name := "chainsFrom", desc := "(IIIIII)V" } : Jvm.MethodName)) ∈ lw_tbl := lw_at lw_m3 85 rfl
theorem q623 : (Jvm.Cond.instanceMethod ({ cls := "HiredByLonging", name := "chainsFrom", desc := "(IIIIII)V" } : Jvm.MethodName)) ∈ lw_all := lw_g (lw_at lw_m3 86 rfl) rfl
theorem q624 : (Jvm.Cond.code ({ cls := "HiredByLonging", name := "chainsFrom", desc := "(IIIIII)V" } : Jvm.MethodName) prog_1_method_24_code (10 : Nat) (Option.none : Option Jvm.ClassFile.FieldType)) ∈ lw_all := lw_g (lw_at lw_m3 87 rfl) rfl
theorem q625 : (Jvm.Cond.methodLink "HiredByLonging" (181 : Nat) ({ cls := "HiredByLonging", name := "has", desc := "(II)Z" } : Jvm.MethodName)) ∈ lw_all := lw_g (lw_at lw_m3 88 rfl) rfl
theorem q626 : (Jvm.Cond.static ({ cls := "HiredByLonging", name := "has", desc := "(II)Z" } : Jvm.MethodName)) ∈ lw_all := lw_g (lw_at lw_m3 89 rfl) rfl
theorem q627 : (Jvm.Cond.code ({ cls := "HiredByLonging", name := "has", desc := "(II)Z" } : Jvm.MethodName) prog_1_method_2_code (2 : Nat) (Option.some Jvm.ClassFile.FieldType.boolean)) ∈ lw_all := lw_g (lw_at lw_m3 90 rfl) rfl
theorem q628 : (Jvm.Cond.methodLink "HiredByLonging" (195 : Nat) ({ cls := "HiredByLonging", name := "isWorthwhile", desc := "(LHiredByLonging$Land;III)Z" } : Jvm.MethodName)) ∈ lw_all := lw_g (lw_at lw_m3 91 rfl) rfl
theorem q629 : (Jvm.Cond.privateMethod ({ cls := "HiredByLonging", name := "isWorthwhile", desc := "(LHiredByLonging$Land;III)Z" } : Jvm.MethodName)) ∈ lw_tbl := lw_at lw_m3 92 rfl
theorem q630 : (Jvm.Cond.instanceMethod ({ cls := "HiredByLonging", name := "isWorthwhile", desc := "(LHiredByLonging$Land;III)Z" } : Jvm.MethodName)) ∈ lw_all := lw_g (lw_at lw_m3 93 rfl) rfl
theorem q631 : (Jvm.Cond.code ({ cls := "HiredByLonging", name := "isWorthwhile", desc := "(LHiredByLonging$Land;III)Z" } : Jvm.MethodName) prog_1_method_23_code (6 : Nat) (Option.some Jvm.ClassFile.FieldType.boolean)) ∈ lw_all := lw_g (lw_at lw_m3 94 rfl) rfl
theorem q633 : (Jvm.Cond.instanceMethod ({ cls := "HiredByLonging", name := "hurry", desc := "(II)I" } : Jvm.MethodName)) ∈ lw_all := lw_g (lw_at lw_m3 96 rfl) rfl
theorem q634 : (Jvm.Cond.selects "HiredByLonging" ({ cls := "HiredByLonging", name := "hurry", desc := "(II)I" } : Jvm.MethodName) ({ cls := "HiredByLonging", name := "hurry", desc := "(II)I" } : Jvm.MethodName)) ∈ lw_all := lw_g (lw_at lw_m3 97 rfl) rfl
theorem q635 : (Jvm.Cond.code ({ cls := "HiredByLonging", name := "hurry", desc := "(II)I" } : Jvm.MethodName) prog_1_method_26_code (7 : Nat) (Option.some Jvm.ClassFile.FieldType.int)) ∈ lw_all := lw_g (lw_at lw_m3 98 rfl) rfl
theorem q637 : (Jvm.Cond.instanceMethod ({ cls := "HiredByLonging", name := "fastest", desc := "(I)I" } : Jvm.MethodName)) ∈ lw_all := lw_g (lw_at lw_m3 100 rfl) rfl
theorem q638 : (Jvm.Cond.selects "HiredByLonging" ({ cls := "HiredByLonging", name := "fastest", desc := "(I)I" } : Jvm.MethodName) ({ cls := "HiredByLonging", name := "fastest", desc := "(I)I" } : Jvm.MethodName)) ∈ lw_all := lw_g (lw_at lw_m3 101 rfl) rfl
theorem q639 : (Jvm.Cond.code ({ cls := "HiredByLonging", name := "fastest", desc := "(I)I" } : Jvm.MethodName) prog_1_method_27_code (4 : Nat) (Option.some Jvm.ClassFile.FieldType.int)) ∈ lw_all := lw_g (lw_at lw_m3 102 rfl) rfl
theorem q641 : (Jvm.Cond.instanceMethod ({ cls := "HiredByLonging", name := "away", desc := "()I" } : Jvm.MethodName)) ∈ lw_all := lw_g (lw_at lw_m3 104 rfl) rfl
theorem q642 : (Jvm.Cond.selects "HiredByLonging" ({ cls := "HiredByLonging", name := "away", desc := "()I" } : Jvm.MethodName) ({ cls := "HiredByLonging", name := "away", desc := "()I" } : Jvm.MethodName)) ∈ lw_all := lw_g (lw_at lw_m3 105 rfl) rfl
theorem q643 : (Jvm.Cond.code ({ cls := "HiredByLonging", name := "away", desc := "()I" } : Jvm.MethodName) prog_1_method_28_code (3 : Nat) (Option.some Jvm.ClassFile.FieldType.int)) ∈ lw_all := lw_g (lw_at lw_m3 106 rfl) rfl
theorem q644 : (Jvm.Cond.methodLink "HiredByLonging" (204 : Nat) ({ cls := "HiredByLonging$Land", name := "isAtGoal", desc := "(I)Z" } : Jvm.MethodName)) ∈ lw_all := lw_g (lw_at lw_m3 107 rfl) rfl
theorem q646 : (Jvm.Cond.instanceMethod ({ cls := "HiredByLonging", name := "ripe", desc := "(II)I" } : Jvm.MethodName)) ∈ lw_all := lw_g (lw_at lw_m3 109 rfl) rfl
theorem q647 : (Jvm.Cond.selects "HiredByLonging" ({ cls := "HiredByLonging", name := "ripe", desc := "(II)I" } : Jvm.MethodName) ({ cls := "HiredByLonging", name := "ripe", desc := "(II)I" } : Jvm.MethodName)) ∈ lw_all := lw_g (lw_at lw_m3 110 rfl) rfl
theorem q648 : (Jvm.Cond.code ({ cls := "HiredByLonging", name := "ripe", desc := "(II)I" } : Jvm.MethodName) prog_1_method_29_code (4 : Nat) (Option.some Jvm.ClassFile.FieldType.int)) ∈ lw_all := lw_g (lw_at lw_m3 111 rfl) rfl
theorem q649 : (Jvm.Cond.methodLink "HiredByLonging" (207 : Nat) ({ cls := "HiredByLonging$Land", name := "goesDay", desc := "(Z)V" } : Jvm.MethodName)) ∈ lw_all := lw_g (lw_at lw_m3 112 rfl) rfl
theorem q651 : (Jvm.Cond.instanceMethod ({ cls := "HiredByLonging", name := "leastLonging", desc := "(III)I" } : Jvm.MethodName)) ∈ lw_all := lw_g (lw_at lw_m3 114 rfl) rfl
theorem q652 : (Jvm.Cond.selects "HiredByLonging" ({ cls := "HiredByLonging", name := "leastLonging", desc := "(III)I" } : Jvm.MethodName) ({ cls := "HiredByLonging", name := "leastLonging", desc := "(III)I" } : Jvm.MethodName)) ∈ lw_all := lw_g (lw_at lw_m3 115 rfl) rfl
theorem q653 : (Jvm.Cond.code ({ cls := "HiredByLonging", name := "leastLonging", desc := "(III)I" } : Jvm.MethodName) prog_1_method_30_code (5 : Nat) (Option.some Jvm.ClassFile.FieldType.int)) ∈ lw_all := lw_g (lw_at lw_m3 116 rfl) rfl
theorem q655 : (Jvm.Cond.instanceMethod ({ cls := "HiredByLonging", name := "soonest", desc := "(III)I" } : Jvm.MethodName)) ∈ lw_all := lw_g (lw_at lw_m3 118 rfl) rfl
theorem q656 : (Jvm.Cond.selects "HiredByLonging" ({ cls := "HiredByLonging", name := "soonest", desc := "(III)I" } : Jvm.MethodName) ({ cls := "HiredByLonging", name := "soonest", desc := "(III)I" } : Jvm.MethodName)) ∈ lw_all := lw_g (lw_at lw_m3 119 rfl) rfl
theorem q657 : (Jvm.Cond.code ({ cls := "HiredByLonging", name := "soonest", desc := "(III)I" } : Jvm.MethodName) prog_1_method_31_code (8 : Nat) (Option.some Jvm.ClassFile.FieldType.int)) ∈ lw_all := lw_g (lw_at lw_m3 120 rfl) rfl
theorem q659 : (Jvm.Cond.instanceMethod ({ cls := "HiredByLonging", name := "race", desc := "(III)I" } : Jvm.MethodName)) ∈ lw_all := lw_g (lw_at lw_m3 122 rfl) rfl
theorem q660 : (Jvm.Cond.selects "HiredByLonging" ({ cls := "HiredByLonging", name := "race", desc := "(III)I" } : Jvm.MethodName) ({ cls := "HiredByLonging", name := "race", desc := "(III)I" } : Jvm.MethodName)) ∈ lw_all := lw_g (lw_at lw_m3 123 rfl) rfl
theorem q661 : (Jvm.Cond.code ({ cls := "HiredByLonging", name := "race", desc := "(III)I" } : Jvm.MethodName) prog_1_method_32_code (6 : Nat) (Option.some Jvm.ClassFile.FieldType.int)) ∈ lw_all := lw_g (lw_at lw_m3 124 rfl) rfl
theorem q663 : (Jvm.Cond.instanceMethod ({ cls := "HiredByLonging", name := "walkAhead", desc := "(IIII)I" } : Jvm.MethodName)) ∈ lw_all := lw_g (lw_at lw_m3 126 rfl) rfl
theorem q664 : (Jvm.Cond.selects "HiredByLonging" ({ cls := "HiredByLonging", name := "walkAhead", desc := "(IIII)I" } : Jvm.MethodName) ({ cls := "HiredByLonging", name := "walkAhead", desc := "(IIII)I" } : Jvm.MethodName)) ∈ lw_all := lw_g (lw_at lw_m3 127 rfl) rfl
theorem q665 : (Jvm.Cond.code ({ cls := "HiredByLonging", name := "walkAhead", desc := "(IIII)I" } : Jvm.MethodName) prog_1_method_33_code (9 : Nat) (Option.some Jvm.ClassFile.FieldType.int)) ∈ lw_all := lw_g (lw_at lw_m3 128 rfl) rfl
theorem q667 : (Jvm.Cond.instanceMethod ({ cls := "HiredByLonging", name := "hang", desc := "(II)I" } : Jvm.MethodName)) ∈ lw_all := lw_g (lw_at lw_m3 130 rfl) rfl
theorem q668 : (Jvm.Cond.selects "HiredByLonging" ({ cls := "HiredByLonging", name := "hang", desc := "(II)I" } : Jvm.MethodName) ({ cls := "HiredByLonging", name := "hang", desc := "(II)I" } : Jvm.MethodName)) ∈ lw_all := lw_g (lw_at lw_m3 131 rfl) rfl
theorem q669 : (Jvm.Cond.code ({ cls := "HiredByLonging", name := "hang", desc := "(II)I" } : Jvm.MethodName) prog_1_method_34_code (6 : Nat) (Option.some Jvm.ClassFile.FieldType.int)) ∈ lw_all := lw_g (lw_at lw_m3 132 rfl) rfl
theorem q671 : (Jvm.Cond.instanceMethod ({ cls := "HiredByLonging", name := "meet", desc := "(I)I" } : Jvm.MethodName)) ∈ lw_all := lw_g (lw_at lw_m3 134 rfl) rfl
theorem q672 : (Jvm.Cond.selects "HiredByLonging" ({ cls := "HiredByLonging", name := "meet", desc := "(I)I" } : Jvm.MethodName) ({ cls := "HiredByLonging", name := "meet", desc := "(I)I" } : Jvm.MethodName)) ∈ lw_all := lw_g (lw_at lw_m3 135 rfl) rfl
theorem q673 : (Jvm.Cond.code ({ cls := "HiredByLonging", name := "meet", desc := "(I)I" } : Jvm.MethodName) prog_1_method_36_code (6 : Nat) (Option.some Jvm.ClassFile.FieldType.int)) ∈ lw_all := lw_g (lw_at lw_m3 136 rfl) rfl
theorem q674 : (Jvm.Cond.methodLink "HiredByLonging" (211 : Nat) ({ cls := "HiredByLonging", name := "allTake", desc := "(I)I" } : Jvm.MethodName)) ∈ lw_all := lw_g (lw_at lw_m3 137 rfl) rfl
theorem q675 : (Jvm.Cond.privateMethod ({ cls := "HiredByLonging", name := "allTake", desc := "(I)I" } : Jvm.MethodName)) ∈ lw_tbl := lw_at lw_m3 138 rfl
theorem q676 : (Jvm.Cond.instanceMethod ({ cls := "HiredByLonging", name := "allTake", desc := "(I)I" } : Jvm.MethodName)) ∈ lw_all := lw_g (lw_at lw_m3 139 rfl) rfl
theorem q677 : (Jvm.Cond.code ({ cls := "HiredByLonging", name := "allTake", desc := "(I)I" } : Jvm.MethodName) prog_1_method_35_code (4 : Nat) (Option.some Jvm.ClassFile.FieldType.int)) ∈ lw_all := lw_g (lw_at lw_m3 140 rfl) rfl
theorem q679 : (Jvm.Cond.instanceMethod ({ cls := "HiredByLonging", name := "spread", desc := "()I" } : Jvm.MethodName)) ∈ lw_all := lw_g (lw_at lw_m3 142 rfl) rfl
theorem q680 : (Jvm.Cond.selects "HiredByLonging" ({ cls := "HiredByLonging", name := "spread", desc := "()I" } : Jvm.MethodName) ({ cls := "HiredByLonging", name := "spread", desc := "()I" } : Jvm.MethodName)) ∈ lw_all := lw_g (lw_at lw_m3 143 rfl) rfl
theorem q681 : (Jvm.Cond.code ({ cls := "HiredByLonging", name := "spread", desc := "()I" } : Jvm.MethodName) prog_1_method_37_code (5 : Nat) (Option.some Jvm.ClassFile.FieldType.int)) ∈ lw_all := lw_g (lw_at lw_m3 144 rfl) rfl
theorem q682 : (Jvm.Cond.methodLink "HiredByLonging" (214 : Nat) ({ cls := "java/lang/Math", name := "abs", desc := "(I)I" } : Jvm.MethodName)) ∈ lw_all := lw_g (lw_at lw_m3 145 rfl) rfl
theorem q684 : (Jvm.Cond.instanceMethod ({ cls := "HiredByLonging", name := "fees", desc := "(II)I" } : Jvm.MethodName)) ∈ lw_all := lw_g (lw_at lw_m3 147 rfl) rfl
theorem q685 : (Jvm.Cond.selects "HiredByLonging" ({ cls := "HiredByLonging", name := "fees", desc := "(II)I" } : Jvm.MethodName) ({ cls := "HiredByLonging", name := "fees", desc := "(II)I" } : Jvm.MethodName)) ∈ lw_all := lw_g (lw_at lw_m3 148 rfl) rfl
theorem q686 : (Jvm.Cond.code ({ cls := "HiredByLonging", name := "fees", desc := "(II)I" } : Jvm.MethodName) prog_1_method_39_code (5 : Nat) (Option.some Jvm.ClassFile.FieldType.int)) ∈ lw_all := lw_g (lw_at lw_m3 149 rfl) rfl
theorem q687 : (Jvm.Cond.methodLink "HiredByLonging" (222 : Nat) ({ cls := "HiredByLonging", name := "feesOf", desc := "(II)I" } : Jvm.MethodName)) ∈ lw_all := lw_g (lw_at lw_m3 150 rfl) rfl
theorem q688 : (Jvm.Cond.privateMethod ({ cls := "HiredByLonging", name := "feesOf", desc := "(II)I" } : Jvm.MethodName)) ∈ lw_tbl := lw_at lw_m3 151 rfl
theorem q689 : (Jvm.Cond.instanceMethod ({ cls := "HiredByLonging", name := "feesOf", desc := "(II)I" } : Jvm.MethodName)) ∈ lw_all := lw_g (lw_at lw_m3 152 rfl) rfl
theorem q690 : (Jvm.Cond.code ({ cls := "HiredByLonging", name := "feesOf", desc := "(II)I" } : Jvm.MethodName) prog_1_method_38_code (3 : Nat) (Option.some Jvm.ClassFile.FieldType.int)) ∈ lw_all := lw_g (lw_at lw_m3 153 rfl) rfl
theorem q691 : (Jvm.Cond.methodLink "HiredByLonging" (219 : Nat) ({ cls := "HiredByLonging$Horse", name := "cost", desc := "()I" } : Jvm.MethodName)) ∈ lw_all := lw_g (lw_at lw_m3 154 rfl) rfl
theorem q723 : (Jvm.Cond.instanceMethod ({ cls := "HiredByLonging", name := "homes", desc := "(IIII)I" } : Jvm.MethodName)) ∈ lw_all := lw_g (lw_at lw_m3 186 rfl) rfl
theorem q724 : (Jvm.Cond.selects "HiredByLonging" ({ cls := "HiredByLonging", name := "homes", desc := "(IIII)I" } : Jvm.MethodName) ({ cls := "HiredByLonging", name := "homes", desc := "(IIII)I" } : Jvm.MethodName)) ∈ lw_all := lw_g (lw_at lw_m3 187 rfl) rfl
theorem q725 : (Jvm.Cond.code ({ cls := "HiredByLonging", name := "homes", desc := "(IIII)I" } : Jvm.MethodName) prog_1_method_47_code (8 : Nat) (Option.some Jvm.ClassFile.FieldType.int)) ∈ lw_all := lw_g (lw_at lw_m3 188 rfl) rfl
theorem q726 : (Jvm.Cond.methodLink "HiredByLonging" (257 : Nat) ({ cls := "HiredByLonging", name := "notRow", desc := "(I)I" } : Jvm.MethodName)) ∈ lw_all := lw_g (lw_at lw_m3 189 rfl) rfl
theorem q727 : (Jvm.Cond.privateMethod ({ cls := "HiredByLonging", name := "notRow", desc := "(I)I" } : Jvm.MethodName)) ∈ lw_tbl := lw_at lw_m3 190 rfl
theorem q728 : (Jvm.Cond.instanceMethod ({ cls := "HiredByLonging", name := "notRow", desc := "(I)I" } : Jvm.MethodName)) ∈ lw_all := lw_g (lw_at lw_m3 191 rfl) rfl
theorem q729 : (Jvm.Cond.code ({ cls := "HiredByLonging", name := "notRow", desc := "(I)I" } : Jvm.MethodName) prog_1_method_45_code (3 : Nat) (Option.some Jvm.ClassFile.FieldType.int)) ∈ lw_all := lw_g (lw_at lw_m3 192 rfl) rfl
theorem q730 : (Jvm.Cond.methodLink "HiredByLonging" (243 : Nat) ({ cls := "HiredByLonging", name := "sortOf", desc := "(Ljava/lang/Object;)I" } : Jvm.MethodName)) ∈ lw_all := lw_g (lw_at lw_m3 193 rfl) rfl
theorem q731 : (Jvm.Cond.static ({ cls := "HiredByLonging", name := "sortOf", desc := "(Ljava/lang/Object;)I" } : Jvm.MethodName)) ∈ lw_all := lw_g (lw_at lw_m3 194 rfl) rfl
theorem q732 : (Jvm.Cond.code ({ cls := "HiredByLonging", name := "sortOf", desc := "(Ljava/lang/Object;)I" } : Jvm.MethodName) prog_1_method_43_code (1 : Nat) (Option.some Jvm.ClassFile.FieldType.int)) ∈ lw_all := lw_g (lw_at lw_m3 195 rfl) rfl
theorem q733 : (Jvm.Cond.classLink "HiredByLonging" (225 : Nat) "[S") ∈ lw_all := lw_g (lw_at lw_m3 196 rfl) rfl
theorem q734 : (Jvm.Cond.classLink "HiredByLonging" (227 : Nat) "[I") ∈ lw_all := lw_g (lw_at lw_m3 197 rfl) rfl
theorem q735 : (Jvm.Cond.methodLink "HiredByLonging" (260 : Nat) ({ cls := "HiredByLonging", name := "wentSo", desc := "(Ljava/lang/Object;II)Z" } : Jvm.MethodName)) ∈ lw_all := lw_g (lw_at lw_m3 198 rfl) rfl
theorem q736 : (Jvm.Cond.privateMethod ({ cls := "HiredByLonging", name := "wentSo", desc := "(Ljava/lang/Object;II)Z" } : Jvm.MethodName)) ∈ lw_tbl := lw_at lw_m3 199 rfl
theorem q737 : (Jvm.Cond.instanceMethod ({ cls := "HiredByLonging", name := "wentSo", desc := "(Ljava/lang/Object;II)Z" } : Jvm.MethodName)) ∈ lw_all := lw_g (lw_at lw_m3 200 rfl) rfl
theorem q738 : (Jvm.Cond.code ({ cls := "HiredByLonging", name := "wentSo", desc := "(Ljava/lang/Object;II)Z" } : Jvm.MethodName) prog_1_method_46_code (5 : Nat) (Option.some Jvm.ClassFile.FieldType.boolean)) ∈ lw_all := lw_g (lw_at lw_m3 201 rfl) rfl
theorem q739 : (Jvm.Cond.methodLink "HiredByLonging" (246 : Nat) ({ cls := "HiredByLonging", name := "sizeOf", desc := "(Ljava/lang/Object;)I" } : Jvm.MethodName)) ∈ lw_all := lw_g (lw_at lw_m3 202 rfl) rfl
theorem q740 : (Jvm.Cond.static ({ cls := "HiredByLonging", name := "sizeOf", desc := "(Ljava/lang/Object;)I" } : Jvm.MethodName)) ∈ lw_all := lw_g (lw_at lw_m3 203 rfl) rfl
theorem q741 : (Jvm.Cond.code ({ cls := "HiredByLonging", name := "sizeOf", desc := "(Ljava/lang/Object;)I" } : Jvm.MethodName) prog_1_method_40_code (1 : Nat) (Option.some Jvm.ClassFile.FieldType.int)) ∈ lw_all := lw_g (lw_at lw_m3 204 rfl) rfl
theorem q742 : (Jvm.Cond.methodLink "HiredByLonging" (249 : Nat) ({ cls := "HiredByLonging", name := "isSkipped", desc := "(Ljava/lang/Object;I)Z" } : Jvm.MethodName)) ∈ lw_all := lw_g (lw_at lw_m3 205 rfl) rfl
theorem q743 : (Jvm.Cond.static ({ cls := "HiredByLonging", name := "isSkipped", desc := "(Ljava/lang/Object;I)Z" } : Jvm.MethodName)) ∈ lw_all := lw_g (lw_at lw_m3 206 rfl) rfl
theorem q744 : (Jvm.Cond.code ({ cls := "HiredByLonging", name := "isSkipped", desc := "(Ljava/lang/Object;I)Z" } : Jvm.MethodName) prog_1_method_44_code (2 : Nat) (Option.some Jvm.ClassFile.FieldType.boolean)) ∈ lw_all := lw_g (lw_at lw_m3 207 rfl) rfl
theorem q745 : (Jvm.Cond.methodLink "HiredByLonging" (235 : Nat) ({ cls := "HiredByLonging", name := "elementOf", desc := "(Ljava/lang/Object;I)I" } : Jvm.MethodName)) ∈ lw_all := lw_g (lw_at lw_m3 208 rfl) rfl
theorem q746 : (Jvm.Cond.static ({ cls := "HiredByLonging", name := "elementOf", desc := "(Ljava/lang/Object;I)I" } : Jvm.MethodName)) ∈ lw_all := lw_g (lw_at lw_m3 209 rfl) rfl
theorem q747 : (Jvm.Cond.code ({ cls := "HiredByLonging", name := "elementOf", desc := "(Ljava/lang/Object;I)I" } : Jvm.MethodName) prog_1_method_41_code (2 : Nat) (Option.some Jvm.ClassFile.FieldType.int)) ∈ lw_all := lw_g (lw_at lw_m3 210 rfl) rfl
theorem q748 : (Jvm.Cond.methodLink "HiredByLonging" (239 : Nat) ({ cls := "HiredByLonging", name := "leastElement", desc := "(Ljava/lang/Object;)I" } : Jvm.MethodName)) ∈ lw_all := lw_g (lw_at lw_m3 211 rfl) rfl
theorem q749 : (Jvm.Cond.static ({ cls := "HiredByLonging", name := "leastElement", desc := "(Ljava/lang/Object;)I" } : Jvm.MethodName)) ∈ lw_all := lw_g (lw_at lw_m3 212 rfl) rfl
theorem q750 : (Jvm.Cond.code ({ cls := "HiredByLonging", name := "leastElement", desc := "(Ljava/lang/Object;)I" } : Jvm.MethodName) prog_1_method_42_code (1 : Nat) (Option.some Jvm.ClassFile.FieldType.int)) ∈ lw_all := lw_g (lw_at lw_m3 213 rfl) rfl
theorem q751 : (Jvm.Cond.constant "HiredByLonging" (234 : Nat) (-2147483648 : Int32)) ∈ lw_all := lw_g (lw_at lw_m3 214 rfl) rfl
theorem q752 : (Jvm.Cond.methodLink "HiredByLonging" (253 : Nat) ({ cls := "HiredByLonging$Land", name := "stepsTo", desc := "(II)V" } : Jvm.MethodName)) ∈ lw_all := lw_g (lw_at lw_m3 215 rfl) rfl
theorem q753 : (Jvm.Cond.methodLink "HiredByLonging" (264 : Nat) ({ cls := "java/lang/Integer", name := "bitCount", desc := "(I)I" } : Jvm.MethodName)) ∈ lw_all := lw_g (lw_at lw_m3 216 rfl) rfl
theorem q760 : (Jvm.Cond.instanceMethod ({ cls := "HiredByLonging", name := "whatIs", desc := "(IIII)I" } : Jvm.MethodName)) ∈ lw_all := lw_g (lw_at lw_m3 223 rfl) rfl
theorem q761 : (Jvm.Cond.selects "HiredByLonging" ({ cls := "HiredByLonging", name := "whatIs", desc := "(IIII)I" } : Jvm.MethodName) ({ cls := "HiredByLonging", name := "whatIs", desc := "(IIII)I" } : Jvm.MethodName)) ∈ lw_all := lw_g (lw_at lw_m3 224 rfl) rfl
theorem q762 : (Jvm.Cond.code ({ cls := "HiredByLonging", name := "whatIs", desc := "(IIII)I" } : Jvm.MethodName) prog_1_method_48_code (9 : Nat) (Option.some Jvm.ClassFile.FieldType.int)) ∈ lw_all := lw_g (lw_at lw_m3 225 rfl) rfl
theorem q764 : (Jvm.Cond.instanceMethod ({ cls := "HiredByLonging", name := "two", desc := "(III)I" } : Jvm.MethodName)) ∈ lw_all := lw_g (lw_at lw_m3 227 rfl) rfl
theorem q765 : (Jvm.Cond.selects "HiredByLonging" ({ cls := "HiredByLonging", name := "two", desc := "(III)I" } : Jvm.MethodName) ({ cls := "HiredByLonging", name := "two", desc := "(III)I" } : Jvm.MethodName)) ∈ lw_all := lw_g (lw_at lw_m3 228 rfl) rfl
theorem q766 : (Jvm.Cond.code ({ cls := "HiredByLonging", name := "two", desc := "(III)I" } : Jvm.MethodName) prog_1_method_51_code (7 : Nat) (Option.some Jvm.ClassFile.FieldType.int)) ∈ lw_all := lw_g (lw_at lw_m3 229 rfl) rfl
theorem q767 : (Jvm.Cond.methodLink "HiredByLonging" (270 : Nat) ({ cls := "HiredByLonging", name := "gets", desc := "(IIIII)I" } : Jvm.MethodName)) ∈ lw_all := lw_g (lw_at lw_m3 230 rfl) rfl
theorem q768 : (Jvm.Cond.privateMethod ({ cls := "HiredByLonging", name := "gets", desc := "(IIIII)I" } : Jvm.MethodName)) ∈ lw_tbl := lw_at lw_m3 231 rfl
theorem q769 : (Jvm.Cond.instanceMethod ({ cls := "HiredByLonging", name := "gets", desc := "(IIIII)I" } : Jvm.MethodName)) ∈ lw_all := lw_g (lw_at lw_m3 232 rfl) rfl
theorem q770 : (Jvm.Cond.code ({ cls := "HiredByLonging", name := "gets", desc := "(IIIII)I" } : Jvm.MethodName) prog_1_method_50_code (6 : Nat) (Option.some Jvm.ClassFile.FieldType.int)) ∈ lw_all := lw_g (lw_at lw_m3 233 rfl) rfl
theorem q771 : (Jvm.Cond.methodLink "HiredByLonging" (267 : Nat) ({ cls := "HiredByLonging", name := "thereBy", desc := "(III)I" } : Jvm.MethodName)) ∈ lw_all := lw_g (lw_at lw_m3 234 rfl) rfl
theorem q772 : (Jvm.Cond.privateMethod ({ cls := "HiredByLonging", name := "thereBy", desc := "(III)I" } : Jvm.MethodName)) ∈ lw_tbl := lw_at lw_m3 235 rfl
theorem q773 : (Jvm.Cond.instanceMethod ({ cls := "HiredByLonging", name := "thereBy", desc := "(III)I" } : Jvm.MethodName)) ∈ lw_all := lw_g (lw_at lw_m3 236 rfl) rfl
theorem q774 : (Jvm.Cond.code ({ cls := "HiredByLonging", name := "thereBy", desc := "(III)I" } : Jvm.MethodName) prog_1_method_49_code (4 : Nat) (Option.some Jvm.ClassFile.FieldType.int)) ∈ lw_all := lw_g (lw_at lw_m3 237 rfl) rfl
theorem q776 : (Jvm.Cond.instanceMethod ({ cls := "HiredByLonging", name := "storm", desc := "(IIIII)J" } : Jvm.MethodName)) ∈ lw_all := lw_g (lw_at lw_m3 239 rfl) rfl
theorem q777 : (Jvm.Cond.selects "HiredByLonging" ({ cls := "HiredByLonging", name := "storm", desc := "(IIIII)J" } : Jvm.MethodName) ({ cls := "HiredByLonging", name := "storm", desc := "(IIIII)J" } : Jvm.MethodName)) ∈ lw_all := lw_g (lw_at lw_m4 0 rfl) rfl
theorem q778 : (Jvm.Cond.code ({ cls := "HiredByLonging", name := "storm", desc := "(IIIII)J" } : Jvm.MethodName) prog_1_method_54_code (14 : Nat) (Option.some Jvm.ClassFile.FieldType.long)) ∈ lw_all := lw_g (lw_at lw_m4 1 rfl) rfl
theorem q779 : (Jvm.Cond.constantLong "HiredByLonging" (278 : Nat) (1000000001 : Int64)) ∈ lw_all := lw_g (lw_at lw_m4 2 rfl) rfl
theorem q780 : (Jvm.Cond.methodLink "HiredByLonging" (280 : Nat) ({ cls := "HiredByLonging", name := "partOf", desc := "(JJI)J" } : Jvm.MethodName)) ∈ lw_all := lw_g (lw_at lw_m4 3 rfl) rfl
theorem q781 : (Jvm.Cond.static ({ cls := "HiredByLonging", name := "partOf", desc := "(JJI)J" } : Jvm.MethodName)) ∈ lw_all := lw_g (lw_at lw_m4 4 rfl) rfl
theorem q782 : (Jvm.Cond.code ({ cls := "HiredByLonging", name := "partOf", desc := "(JJI)J" } : Jvm.MethodName) prog_1_method_53_code (5 : Nat) (Option.some Jvm.ClassFile.FieldType.long)) ∈ lw_all := lw_g (lw_at lw_m4 5 rfl) rfl
theorem q783 : (Jvm.Cond.methodLink "HiredByLonging" (274 : Nat) ({ cls := "HiredByLonging", name := "divisor", desc := "(JJ)J" } : Jvm.MethodName)) ∈ lw_all := lw_g (lw_at lw_m4 6 rfl) rfl
theorem q784 : (Jvm.Cond.static ({ cls := "HiredByLonging", name := "divisor", desc := "(JJ)J" } : Jvm.MethodName)) ∈ lw_all := lw_g (lw_at lw_m4 7 rfl) rfl
theorem q785 : (Jvm.Cond.code ({ cls := "HiredByLonging", name := "divisor", desc := "(JJ)J" } : Jvm.MethodName) prog_1_method_52_code (4 : Nat) (Option.some Jvm.ClassFile.FieldType.long)) ∈ lw_all := lw_g (lw_at lw_m4 8 rfl) rfl
theorem q787 : (Jvm.Cond.instanceMethod ({ cls := "HiredByLonging", name := "mean", desc := "(I)J" } : Jvm.MethodName)) ∈ lw_all := lw_g (lw_at lw_m4 10 rfl) rfl
theorem q788 : (Jvm.Cond.selects "HiredByLonging" ({ cls := "HiredByLonging", name := "mean", desc := "(I)J" } : Jvm.MethodName) ({ cls := "HiredByLonging", name := "mean", desc := "(I)J" } : Jvm.MethodName)) ∈ lw_all := lw_g (lw_at lw_m4 11 rfl) rfl
theorem q789 : (Jvm.Cond.code ({ cls := "HiredByLonging", name := "mean", desc := "(I)J" } : Jvm.MethodName) prog_1_method_55_code (2 : Nat) (Option.some Jvm.ClassFile.FieldType.long)) ∈ lw_all := lw_g (lw_at lw_m4 12 rfl) rfl
theorem q791 : (Jvm.Cond.instanceMethod ({ cls := "HiredByLonging", name := "forged", desc := "(I)I" } : Jvm.MethodName)) ∈ lw_all := lw_g (lw_at lw_m4 14 rfl) rfl
theorem q792 : (Jvm.Cond.selects "HiredByLonging" ({ cls := "HiredByLonging", name := "forged", desc := "(I)I" } : Jvm.MethodName) ({ cls := "HiredByLonging", name := "forged", desc := "(I)I" } : Jvm.MethodName)) ∈ lw_all := lw_g (lw_at lw_m4 15 rfl) rfl
theorem q793 : (Jvm.Cond.code ({ cls := "HiredByLonging", name := "forged", desc := "(I)I" } : Jvm.MethodName) prog_1_method_56_code (8 : Nat) (Option.some Jvm.ClassFile.FieldType.int)) ∈ lw_all := lw_g (lw_at lw_m4 16 rfl) rfl
theorem q795 : (Jvm.Cond.instanceMethod ({ cls := "HiredByLonging", name := "judge", desc := "(I)I" } : Jvm.MethodName)) ∈ lw_all := lw_g (lw_at lw_m4 18 rfl) rfl
theorem q796 : (Jvm.Cond.selects "HiredByLonging" ({ cls := "HiredByLonging", name := "judge", desc := "(I)I" } : Jvm.MethodName) ({ cls := "HiredByLonging", name := "judge", desc := "(I)I" } : Jvm.MethodName)) ∈ lw_all := lw_g (lw_at lw_m4 19 rfl) rfl
theorem q797 : (Jvm.Cond.code ({ cls := "HiredByLonging", name := "judge", desc := "(I)I" } : Jvm.MethodName) prog_1_method_57_code (5 : Nat) (Option.some Jvm.ClassFile.FieldType.int)) ∈ lw_all := lw_g (lw_at lw_m4 20 rfl) rfl
theorem q799 : (Jvm.Cond.instanceMethod ({ cls := "HiredByLonging", name := "lands", desc := "(III)I" } : Jvm.MethodName)) ∈ lw_all := lw_g (lw_at lw_m4 22 rfl) rfl
theorem q800 : (Jvm.Cond.selects "HiredByLonging" ({ cls := "HiredByLonging", name := "lands", desc := "(III)I" } : Jvm.MethodName) ({ cls := "HiredByLonging", name := "lands", desc := "(III)I" } : Jvm.MethodName)) ∈ lw_all := lw_g (lw_at lw_m4 23 rfl) rfl
theorem q801 : (Jvm.Cond.code ({ cls := "HiredByLonging", name := "lands", desc := "(III)I" } : Jvm.MethodName) prog_1_method_59_code (8 : Nat) (Option.some Jvm.ClassFile.FieldType.int)) ∈ lw_all := lw_g (lw_at lw_m4 24 rfl) rfl
theorem q802 : (Jvm.Cond.methodLink "HiredByLonging" (290 : Nat) ({ cls := "HiredByLonging", name := "draw", desc := "(I)I" } : Jvm.MethodName)) ∈ lw_all := lw_g (lw_at lw_m4 25 rfl) rfl
theorem q803 : (Jvm.Cond.privateMethod ({ cls := "HiredByLonging", name := "draw", desc := "(I)I" } : Jvm.MethodName)) ∈ lw_tbl := lw_at lw_m4 26 rfl
theorem q804 : (Jvm.Cond.instanceMethod ({ cls := "HiredByLonging", name := "draw", desc := "(I)I" } : Jvm.MethodName)) ∈ lw_all := lw_g (lw_at lw_m4 27 rfl) rfl
theorem q805 : (Jvm.Cond.code ({ cls := "HiredByLonging", name := "draw", desc := "(I)I" } : Jvm.MethodName) prog_1_method_58_code (2 : Nat) (Option.some Jvm.ClassFile.FieldType.int)) ∈ lw_all := lw_g (lw_at lw_m4 28 rfl) rfl
theorem q806 : (Jvm.Cond.constant "HiredByLonging" (287 : Nat) (1103515245 : Int32)) ∈ lw_all := lw_g (lw_at lw_m4 29 rfl) rfl
theorem q807 : (Jvm.Cond.constant "HiredByLonging" (288 : Nat) (2147483647 : Int32)) ∈ lw_all := lw_g (lw_at lw_m4 30 rfl) rfl
theorem q808 : (Jvm.Cond.constant "HiredByLonging" (289 : Nat) (65536 : Int32)) ∈ lw_all := lw_g (lw_at lw_m4 31 rfl) rfl
theorem q809 : (Jvm.Cond.methodLink "HiredByLonging" (293 : Nat) ({ cls := "HiredByLonging$Land", name := "manyAtGoals", desc := "()I" } : Jvm.MethodName)) ∈ lw_all := lw_g (lw_at lw_m4 32 rfl) rfl
theorem q814 : (Jvm.Cond.instanceMethod ({ cls := "HiredByLonging", name := "image", desc := "()I" } : Jvm.MethodName)) ∈ lw_all := lw_g (lw_at lw_m4 37 rfl) rfl
theorem q815 : (Jvm.Cond.selects "HiredByLonging" ({ cls := "HiredByLonging", name := "image", desc := "()I" } : Jvm.MethodName) ({ cls := "HiredByLonging", name := "image", desc := "()I" } : Jvm.MethodName)) ∈ lw_all := lw_g (lw_at lw_m4 38 rfl) rfl
theorem q816 : (Jvm.Cond.code ({ cls := "HiredByLonging", name := "image", desc := "()I" } : Jvm.MethodName) prog_1_method_60_code (1 : Nat) (Option.some Jvm.ClassFile.FieldType.int)) ∈ lw_all := lw_g (lw_at lw_m4 39 rfl) rfl
theorem q818 : (Jvm.Cond.instanceMethod ({ cls := "HiredByLonging", name := "restore", desc := "()I" } : Jvm.MethodName)) ∈ lw_all := lw_g (lw_at lw_m4 41 rfl) rfl
theorem q819 : (Jvm.Cond.selects "HiredByLonging" ({ cls := "HiredByLonging", name := "restore", desc := "()I" } : Jvm.MethodName) ({ cls := "HiredByLonging", name := "restore", desc := "()I" } : Jvm.MethodName)) ∈ lw_all := lw_g (lw_at lw_m4 42 rfl) rfl
theorem q820 : (Jvm.Cond.code ({ cls := "HiredByLonging", name := "restore", desc := "()I" } : Jvm.MethodName) prog_1_method_61_code (1 : Nat) (Option.some Jvm.ClassFile.FieldType.int)) ∈ lw_all := lw_g (lw_at lw_m4 43 rfl) rfl
theorem q822 : (Jvm.Cond.instanceMethod ({ cls := "HiredByLonging", name := "count", desc := "(I)I" } : Jvm.MethodName)) ∈ lw_all := lw_g (lw_at lw_m4 45 rfl) rfl
theorem q823 : (Jvm.Cond.selects "HiredByLonging" ({ cls := "HiredByLonging", name := "count", desc := "(I)I" } : Jvm.MethodName) ({ cls := "HiredByLonging", name := "count", desc := "(I)I" } : Jvm.MethodName)) ∈ lw_all := lw_g (lw_at lw_m4 46 rfl) rfl
theorem q824 : (Jvm.Cond.code ({ cls := "HiredByLonging", name := "count", desc := "(I)I" } : Jvm.MethodName) prog_1_method_62_code (4 : Nat) (Option.some Jvm.ClassFile.FieldType.int)) ∈ lw_all := lw_g (lw_at lw_m4 47 rfl) rfl
theorem q827 : (Jvm.Cond.instanceMethod ({ cls := "HiredByLonging", name := "<init>", desc := "()V" } : Jvm.MethodName)) ∈ lw_all := lw_g (lw_at lw_m4 50 rfl) rfl
theorem q828 : (Jvm.Cond.code ({ cls := "HiredByLonging", name := "<init>", desc := "()V" } : Jvm.MethodName) prog_1_method_63_code (2 : Nat) (Option.none : Option Jvm.ClassFile.FieldType)) ∈ lw_all := lw_g (lw_at lw_m4 51 rfl) rfl
theorem q829 : (Jvm.Cond.methodLink "HiredByLonging" (303 : Nat) ({ cls := "java/lang/Object", name := "<init>", desc := "()V" } : Jvm.MethodName)) ∈ lw_all := lw_g (lw_at lw_m4 52 rfl) rfl
theorem q830 : (Jvm.Cond.classLink "HiredByLonging" (43 : Nat) "HiredByLonging$Land") ∈ lw_all := lw_g (lw_at lw_m4 53 rfl) rfl
theorem q831 : (Jvm.Cond.methodLinkNest "HiredByLonging" (307 : Nat) ({ cls := "HiredByLonging$Land", name := "<init>", desc := "()V" } : Jvm.MethodName) "HiredByLonging") ∈ lw_tbl := lw_at lw_m4 54 rfl
theorem q838 : (Jvm.Cond.fieldLink "HiredByLonging" (141 : Nat) "HiredByLonging$Land" "horse" "[LHiredByLonging$Horse;") ∈ lw_all := lw_g (lw_at lw_m4 61 rfl) rfl
theorem q840 : (Jvm.Cond.fieldLink "HiredByLonging" (152 : Nat) "HiredByLonging$Land" "home" "[I") ∈ lw_all := lw_g (lw_at lw_m4 63 rfl) rfl
theorem q842 : (Jvm.Cond.fieldLink "HiredByLonging" (155 : Nat) "HiredByLonging$Land" "at" "[I") ∈ lw_all := lw_g (lw_at lw_m4 65 rfl) rfl
theorem q844 : (Jvm.Cond.fieldLink "HiredByLonging" (79 : Nat) "HiredByLonging$Land" "longing" "[I") ∈ lw_all := lw_g (lw_at lw_m4 67 rfl) rfl
theorem q846 : (Jvm.Cond.fieldLink "HiredByLonging" (42 : Nat) "HiredByLonging$Land" "horses" "I") ∈ lw_all := lw_g (lw_at lw_m4 69 rfl) rfl
theorem q848 : (Jvm.Cond.fieldLink "HiredByLonging" (82 : Nat) "HiredByLonging$Land" "oats" "I") ∈ lw_all := lw_g (lw_at lw_m4 71 rfl) rfl
theorem q850 : (Jvm.Cond.fieldLink "HiredByLonging" (76 : Nat) "HiredByLonging$Land" "day" "I") ∈ lw_all := lw_g (lw_at lw_m4 73 rfl) rfl
theorem q866 : (Jvm.Cond.classLink "HiredByLonging" (57 : Nat) "HiredByLonging$Told") ∈ lw_all := lw_g (lw_at lw_m4 89 rfl) rfl
theorem q869 : (Jvm.Cond.classLink "HiredByLonging" (125 : Nat) "HiredByLonging$Shelf") ∈ lw_all := lw_g (lw_at lw_m4 92 rfl) rfl
theorem q872 : (Jvm.Cond.methodLinkNest "HiredByLonging" (308 : Nat) ({ cls := "HiredByLonging$Shelf", name := "<init>", desc := "()V" } : Jvm.MethodName) "HiredByLonging") ∈ lw_tbl := lw_at lw_m4 95 rfl
theorem q876 : (Jvm.Cond.fieldLink "HiredByLonging" (124 : Nat) "HiredByLonging$Shelf" "held" "Ljava/lang/Object;") ∈ lw_all := lw_g (lw_at lw_m4 99 rfl) rfl
theorem q880 : (Jvm.Cond.fieldLink "HiredByLonging" (101 : Nat) "HiredByLonging" "now" "LHiredByLonging$Land;") ∈ lw_all := lw_g (lw_at lw_m4 103 rfl) rfl
theorem q881 : (Jvm.Cond.fieldLink "HiredByLonging" (296 : Nat) "HiredByLonging" "kept" "LHiredByLonging$Land;") ∈ lw_all := lw_g (lw_at lw_m4 104 rfl) rfl
theorem q882 : (Jvm.Cond.fieldLink "HiredByLonging" (38 : Nat) "HiredByLonging" "mind" "LHiredByLonging$Land;") ∈ lw_all := lw_g (lw_at lw_m4 105 rfl) rfl
theorem q883 : (Jvm.Cond.fieldLink "HiredByLonging" (299 : Nat) "HiredByLonging" "hasImage" "Z") ∈ lw_all := lw_g (lw_at lw_m4 106 rfl) rfl
theorem q884 : (Jvm.Cond.fieldLink "HiredByLonging" (93 : Nat) "HiredByLonging" "told" "[LHiredByLonging$Told;") ∈ lw_all := lw_g (lw_at lw_m4 107 rfl) rfl
theorem q885 : (Jvm.Cond.fieldLink "HiredByLonging" (191 : Nat) "HiredByLonging" "legs" "[LHiredByLonging$Land;") ∈ lw_all := lw_g (lw_at lw_m4 108 rfl) rfl
theorem q886 : (Jvm.Cond.fieldLink "HiredByLonging" (185 : Nat) "HiredByLonging" "fewest" "I") ∈ lw_all := lw_g (lw_at lw_m4 109 rfl) rfl
theorem q887 : (Jvm.Cond.fieldLink "HiredByLonging" (188 : Nat) "HiredByLonging" "firstHorse" "I") ∈ lw_all := lw_g (lw_at lw_m4 110 rfl) rfl
theorem q888 : (Jvm.Cond.fieldLink "HiredByLonging" (284 : Nat) "HiredByLonging" "lots" "I") ∈ lw_all := lw_g (lw_at lw_m4 111 rfl) rfl
theorem q889 : (Jvm.Cond.fieldLink "HiredByLonging" (120 : Nat) "HiredByLonging" "shelves" "[LHiredByLonging$Shelf;") ∈ lw_all := lw_g (lw_at lw_m4 112 rfl) rfl
theorem q890 : (Jvm.Cond.laysFinal "HiredByLonging" "HiredByLonging" "now" "LHiredByLonging$Land;") ∈ lw_all := lw_g (lw_at lw_m4 113 rfl) rfl
theorem q891 : (Jvm.Cond.soleField "HiredByLonging" "now") ∈ lw_all := lw_g (lw_at lw_m4 114 rfl) rfl
theorem q892 : (Jvm.Cond.laysFinal "HiredByLonging" "HiredByLonging" "kept" "LHiredByLonging$Land;") ∈ lw_all := lw_g (lw_at lw_m4 115 rfl) rfl
theorem q893 : (Jvm.Cond.soleField "HiredByLonging" "kept") ∈ lw_all := lw_g (lw_at lw_m4 116 rfl) rfl
theorem q894 : (Jvm.Cond.laysFinal "HiredByLonging" "HiredByLonging" "mind" "LHiredByLonging$Land;") ∈ lw_all := lw_g (lw_at lw_m4 117 rfl) rfl
theorem q895 : (Jvm.Cond.soleField "HiredByLonging" "mind") ∈ lw_all := lw_g (lw_at lw_m4 118 rfl) rfl
theorem q896 : (Jvm.Cond.lays "HiredByLonging" "HiredByLonging" "hasImage" "Z") ∈ lw_all := lw_g (lw_at lw_m4 119 rfl) rfl
theorem q897 : (Jvm.Cond.soleField "HiredByLonging" "hasImage") ∈ lw_all := lw_g (lw_at lw_m4 120 rfl) rfl
theorem q898 : (Jvm.Cond.laysFinal "HiredByLonging" "HiredByLonging" "told" "[LHiredByLonging$Told;") ∈ lw_all := lw_g (lw_at lw_m4 121 rfl) rfl
theorem q899 : (Jvm.Cond.soleField "HiredByLonging" "told") ∈ lw_all := lw_g (lw_at lw_m4 122 rfl) rfl
theorem q900 : (Jvm.Cond.laysFinal "HiredByLonging" "HiredByLonging" "legs" "[LHiredByLonging$Land;") ∈ lw_all := lw_g (lw_at lw_m4 123 rfl) rfl
theorem q901 : (Jvm.Cond.soleField "HiredByLonging" "legs") ∈ lw_all := lw_g (lw_at lw_m4 124 rfl) rfl
theorem q902 : (Jvm.Cond.lays "HiredByLonging" "HiredByLonging" "fewest" "I") ∈ lw_all := lw_g (lw_at lw_m4 125 rfl) rfl
theorem q903 : (Jvm.Cond.soleField "HiredByLonging" "fewest") ∈ lw_all := lw_g (lw_at lw_m4 126 rfl) rfl
theorem q904 : (Jvm.Cond.lays "HiredByLonging" "HiredByLonging" "firstHorse" "I") ∈ lw_all := lw_g (lw_at lw_m4 127 rfl) rfl
theorem q905 : (Jvm.Cond.soleField "HiredByLonging" "firstHorse") ∈ lw_all := lw_g (lw_at lw_m4 128 rfl) rfl
theorem q906 : (Jvm.Cond.lays "HiredByLonging" "HiredByLonging" "lots" "I") ∈ lw_all := lw_g (lw_at lw_m4 129 rfl) rfl
theorem q907 : (Jvm.Cond.soleField "HiredByLonging" "lots") ∈ lw_all := lw_g (lw_at lw_m4 130 rfl) rfl
theorem q908 : (Jvm.Cond.laysFinal "HiredByLonging" "HiredByLonging" "shelves" "[LHiredByLonging$Shelf;") ∈ lw_all := lw_g (lw_at lw_m4 131 rfl) rfl
theorem q909 : (Jvm.Cond.soleField "HiredByLonging" "shelves") ∈ lw_all := lw_g (lw_at lw_m4 132 rfl) rfl
theorem q910 : (Jvm.Cond.superclass "HiredByLonging" "java/lang/Object") ∈ lw_all := lw_g (lw_at lw_m4 133 rfl) rfl
theorem q912 : (Jvm.Cond.instanceMethod ({ cls := "HiredByLonging", name := "keep", desc := "(IIII)I" } : Jvm.MethodName)) ∈ lw_all := lw_g (lw_at lw_m4 135 rfl) rfl
theorem q913 : (Jvm.Cond.selects "HiredByLonging" ({ cls := "HiredByLonging", name := "keep", desc := "(IIII)I" } : Jvm.MethodName) ({ cls := "HiredByLonging", name := "keep", desc := "(IIII)I" } : Jvm.MethodName)) ∈ lw_all := lw_g (lw_at lw_m4 136 rfl) rfl
theorem q914 : (Jvm.Cond.code ({ cls := "HiredByLonging", name := "keep", desc := "(IIII)I" } : Jvm.MethodName) prog_1_method_64_code (5 : Nat) (Option.some Jvm.ClassFile.FieldType.int)) ∈ lw_all := lw_g (lw_at lw_m4 137 rfl) rfl
theorem q915 : (Jvm.Cond.methodLink "HiredByLonging" (309 : Nat) ({ cls := "HiredByLonging", name := "isNine", desc := "(I)Z" } : Jvm.MethodName)) ∈ lw_all := lw_g (lw_at lw_m4 138 rfl) rfl
theorem q916 : (Jvm.Cond.static ({ cls := "HiredByLonging", name := "isNine", desc := "(I)Z" } : Jvm.MethodName)) ∈ lw_all := lw_g (lw_at lw_m4 139 rfl) rfl
theorem q917 : (Jvm.Cond.code ({ cls := "HiredByLonging", name := "isNine", desc := "(I)Z" } : Jvm.MethodName) prog_1_method_6_code (1 : Nat) (Option.some Jvm.ClassFile.FieldType.boolean)) ∈ lw_all := lw_g (lw_at lw_m4 140 rfl) rfl
theorem q919 : (Jvm.Cond.instanceMethod ({ cls := "HiredByLonging", name := "row", desc := "(III)I" } : Jvm.MethodName)) ∈ lw_all := lw_g (lw_at lw_m4 142 rfl) rfl
theorem q920 : (Jvm.Cond.selects "HiredByLonging" ({ cls := "HiredByLonging", name := "row", desc := "(III)I" } : Jvm.MethodName) ({ cls := "HiredByLonging", name := "row", desc := "(III)I" } : Jvm.MethodName)) ∈ lw_all := lw_g (lw_at lw_m4 143 rfl) rfl
theorem q921 : (Jvm.Cond.codeWith ({ cls := "HiredByLonging", name := "row", desc := "(III)I" } : Jvm.MethodName) prog_1_method_65_code (5 : Nat) (Option.some Jvm.ClassFile.FieldType.int) [((25 : Nat), (67 : Nat), (68 : Nat), (312 : Nat))]) ∈ lw_all := lw_g (lw_at lw_m4 144 rfl) rfl
theorem q922 : (Jvm.Cond.classLink "HiredByLonging" (312 : Nat) "java/lang/NegativeArraySizeException") ∈ lw_all := lw_g (lw_at lw_m4 145 rfl) rfl
theorem q938 : (Jvm.Cond.instanceMethod ({ cls := "HiredByLonging", name := "put", desc := "(III)I" } : Jvm.MethodName)) ∈ lw_all := lw_g (lw_at lw_m4 161 rfl) rfl
theorem q939 : (Jvm.Cond.selects "HiredByLonging" ({ cls := "HiredByLonging", name := "put", desc := "(III)I" } : Jvm.MethodName) ({ cls := "HiredByLonging", name := "put", desc := "(III)I" } : Jvm.MethodName)) ∈ lw_all := lw_g (lw_at lw_m4 162 rfl) rfl
theorem q940 : (Jvm.Cond.codeWith ({ cls := "HiredByLonging", name := "put", desc := "(III)I" } : Jvm.MethodName) prog_1_method_66_code (6 : Nat) (Option.some Jvm.ClassFile.FieldType.int) [((29 : Nat), (78 : Nat), (79 : Nat), (136 : Nat)), ((29 : Nat), (78 : Nat), (84 : Nat), (314 : Nat))]) ∈ lw_all := lw_g (lw_at lw_m4 163 rfl) rfl
theorem q941 : (Jvm.Cond.classLink "HiredByLonging" (314 : Nat) "java/lang/ArrayIndexOutOfBoundsException") ∈ lw_all := lw_g (lw_at lw_m4 164 rfl) rfl
theorem q961 : (Jvm.Cond.instanceMethod ({ cls := "HiredByLonging", name := "copy", desc := "(IIIII)I" } : Jvm.MethodName)) ∈ lw_all := lw_g (lw_at lw_m4 184 rfl) rfl
theorem q962 : (Jvm.Cond.selects "HiredByLonging" ({ cls := "HiredByLonging", name := "copy", desc := "(IIIII)I" } : Jvm.MethodName) ({ cls := "HiredByLonging", name := "copy", desc := "(IIIII)I" } : Jvm.MethodName)) ∈ lw_all := lw_g (lw_at lw_m4 185 rfl) rfl
theorem q963 : (Jvm.Cond.codeWith ({ cls := "HiredByLonging", name := "copy", desc := "(IIIII)I" } : Jvm.MethodName) prog_1_method_68_code (9 : Nat) (Option.some Jvm.ClassFile.FieldType.int) [((78 : Nat), (92 : Nat), (93 : Nat), (330 : Nat))]) ∈ lw_all := lw_g (lw_at lw_m4 186 rfl) rfl
theorem q964 : (Jvm.Cond.classLink "HiredByLonging" (330 : Nat) "java/lang/IndexOutOfBoundsException") ∈ lw_all := lw_g (lw_at lw_m4 187 rfl) rfl
theorem q965 : (Jvm.Cond.methodLink "HiredByLonging" (324 : Nat) ({ cls := "java/lang/System", name := "arraycopy", desc := "(Ljava/lang/Object;ILjava/lang/Object;II)V" } : Jvm.MethodName)) ∈ lw_all := lw_g (lw_at lw_m4 188 rfl) rfl
theorem q967 : (Jvm.Cond.instanceMethod ({ cls := "HiredByLonging", name := "cost", desc := "(I)I" } : Jvm.MethodName)) ∈ lw_all := lw_g (lw_at lw_m4 190 rfl) rfl
theorem q968 : (Jvm.Cond.selects "HiredByLonging" ({ cls := "HiredByLonging", name := "cost", desc := "(I)I" } : Jvm.MethodName) ({ cls := "HiredByLonging", name := "cost", desc := "(I)I" } : Jvm.MethodName)) ∈ lw_all := lw_g (lw_at lw_m4 191 rfl) rfl
theorem q969 : (Jvm.Cond.codeWith ({ cls := "HiredByLonging", name := "cost", desc := "(I)I" } : Jvm.MethodName) prog_1_method_69_code (3 : Nat) (Option.some Jvm.ClassFile.FieldType.int) [((10 : Nat), (25 : Nat), (26 : Nat), (319 : Nat)), ((10 : Nat), (25 : Nat), (30 : Nat), (136 : Nat))]) ∈ lw_all := lw_g (lw_at lw_m4 192 rfl) rfl
theorem q970 : (Jvm.Cond.classLink "HiredByLonging" (319 : Nat) "java/lang/NullPointerException") ∈ lw_all := lw_g (lw_at lw_m4 193 rfl) rfl
theorem q993 : (Jvm.Cond.instanceMethod ({ cls := "HiredByLonging", name := "toss", desc := "(I)I" } : Jvm.MethodName)) ∈ lw_all := lw_g (lw_at lw_m4 216 rfl) rfl
theorem q994 : (Jvm.Cond.selects "HiredByLonging" ({ cls := "HiredByLonging", name := "toss", desc := "(I)I" } : Jvm.MethodName) ({ cls := "HiredByLonging", name := "toss", desc := "(I)I" } : Jvm.MethodName)) ∈ lw_all := lw_g (lw_at lw_m4 217 rfl) rfl
theorem q995 : (Jvm.Cond.codeWith ({ cls := "HiredByLonging", name := "toss", desc := "(I)I" } : Jvm.MethodName) prog_1_method_70_code (3 : Nat) (Option.some Jvm.ClassFile.FieldType.int) [((25 : Nat), (41 : Nat), (41 : Nat), (336 : Nat)), ((25 : Nat), (41 : Nat), (47 : Nat), (319 : Nat)), ((25 : Nat), (41 : Nat), (51 : Nat), (136 : Nat))]) ∈ lw_all := lw_g (lw_at lw_m4 218 rfl) rfl
theorem q996 : (Jvm.Cond.classLink "HiredByLonging" (336 : Nat) "HiredByLonging$Tossed") ∈ lw_all := lw_g (lw_at lw_m4 219 rfl) rfl
theorem q997 : (Jvm.Cond.methodLink "HiredByLonging" (332 : Nat) ({ cls := "HiredByLonging$Horse", name := "failure", desc := "()LHiredByLonging$Tossed;" } : Jvm.MethodName)) ∈ lw_all := lw_g (lw_at lw_m4 220 rfl) rfl
theorem q1031 : (Jvm.Cond.fieldLink "HiredByLonging" (338 : Nat) "HiredByLonging$Tossed" "n" "I") ∈ lw_all := lw_g (lw_at lw_m5 14 rfl) rfl
theorem q1048 : (Jvm.Cond.instanceMethod ({ cls := "HiredByLonging", name := "element", desc := "(II)J" } : Jvm.MethodName)) ∈ lw_all := lw_g (lw_at lw_m5 31 rfl) rfl
theorem q1049 : (Jvm.Cond.selects "HiredByLonging" ({ cls := "HiredByLonging", name := "element", desc := "(II)J" } : Jvm.MethodName) ({ cls := "HiredByLonging", name := "element", desc := "(II)J" } : Jvm.MethodName)) ∈ lw_all := lw_g (lw_at lw_m5 32 rfl) rfl
theorem q1050 : (Jvm.Cond.codeWith ({ cls := "HiredByLonging", name := "element", desc := "(II)J" } : Jvm.MethodName) prog_1_method_67_code (5 : Nat) (Option.some Jvm.ClassFile.FieldType.long) [((26 : Nat), (40 : Nat), (64 : Nat), (319 : Nat)), ((41 : Nat), (55 : Nat), (64 : Nat), (319 : Nat)), ((56 : Nat), (63 : Nat), (64 : Nat), (319 : Nat)), ((26 : Nat), (40 : Nat), (74 : Nat), (136 : Nat)), ((41 : Nat), (55 : Nat), (74 : Nat), (136 : Nat)), ((56 : Nat), (63 : Nat), (74 : Nat), (136 : Nat)), ((26 : Nat), (40 : Nat), (84 : Nat), (314 : Nat)), ((41 : Nat), (55 : Nat), (84 : Nat), (314 : Nat)), ((56 : Nat), (63 : Nat), (84 : Nat), (314 : Nat))]) ∈ lw_all := lw_g (lw_at lw_m5 33 rfl) rfl
theorem q1051 : (Jvm.Cond.classLink "HiredByLonging" (316 : Nat) "java/lang/IllegalArgumentException") ∈ lw_all := lw_g (lw_at lw_m5 34 rfl) rfl
theorem q1060 : (Jvm.Cond.methodLink "HiredByLonging" (318 : Nat) ({ cls := "java/lang/IllegalArgumentException", name := "<init>", desc := "()V" } : Jvm.MethodName)) ∈ lw_all := lw_g (lw_at lw_m5 43 rfl) rfl
theorem q1066 : (Jvm.Cond.classLink "HiredByLonging" (321 : Nat) "java/lang/IllegalStateException") ∈ lw_all := lw_g (lw_at lw_m5 49 rfl) rfl
theorem q1075 : (Jvm.Cond.methodLink "HiredByLonging" (323 : Nat) ({ cls := "java/lang/IllegalStateException", name := "<init>", desc := "()V" } : Jvm.MethodName)) ∈ lw_all := lw_g (lw_at lw_m5 58 rfl) rfl
theorem in_X1 : ∀ w ∈ wsX10, w ∈ lw_all := lw_in wsX10 [890, 892, 894, 896, 898, 900, 902, 904, 906, 908] (by decide +kernel) (by decide +kernel)
