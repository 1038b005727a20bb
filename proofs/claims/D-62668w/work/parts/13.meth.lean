/-! THE SMALL MACHINE, 11: the methods: what the tables say of each; the check of a code table -/
set_option maxRecDepth 100000
def am_by (m : Nat) : ByteArray := match m with
  | 0 => method_3_code
  | 1 => method_4_code
  | 2 => method_5_code
  | 3 => method_6_code
  | 4 => method_7_code
  | 5 => prog_1_method_1_code
  | 6 => prog_1_method_57_code
  | 7 => prog_1_method_58_code
  | 8 => prog_1_method_61_code
  | 9 => prog_1_method_62_code
  | 10 => prog_1_method_49_code
  | 11 => prog_1_method_48_code
  | 12 => prog_1_method_50_code
  | 13 => prog_1_method_44_code
  | 14 => prog_1_method_45_code
  | 15 => prog_1_method_51_code
  | 16 => prog_1_method_46_code
  | 17 => prog_1_method_47_code
  | 18 => prog_1_method_54_code
  | 19 => prog_1_method_56_code
  | 20 => prog_1_method_55_code
  | 21 => prog_1_method_52_code
  | 22 => prog_1_method_53_code
  | 23 => prog_1_method_63_code
  | 24 => prog_1_method_60_code
  | 25 => prog_1_method_59_code
  | 26 => prog_1_method_26_code
  | 27 => prog_1_method_18_code
  | 28 => prog_1_method_20_code
  | 29 => prog_1_method_19_code
  | 30 => prog_1_method_27_code
  | 31 => prog_1_method_29_code
  | 32 => prog_1_method_31_code
  | 33 => prog_1_method_32_code
  | 34 => prog_1_method_33_code
  | 35 => prog_1_method_35_code
  | 36 => prog_1_method_36_code
  | 37 => prog_1_method_34_code
  | 38 => prog_1_method_22_code
  | 39 => prog_1_method_23_code
  | 40 => prog_1_method_39_code
  | 41 => prog_1_method_38_code
  | 42 => prog_1_method_37_code
  | 43 => prog_1_method_21_code
  | 44 => prog_1_method_25_code
  | 45 => prog_1_method_30_code
  | 46 => prog_1_method_28_code
  | 47 => prog_1_method_40_code
  | 48 => prog_1_method_42_code
  | 49 => prog_1_method_41_code
  | 50 => prog_1_method_24_code
  | 51 => prog_1_method_13_code
  | 52 => prog_1_method_15_code
  | 53 => prog_1_method_2_code
  | 54 => prog_1_method_6_code
  | 55 => prog_1_method_4_code
  | 56 => prog_1_method_3_code
  | 57 => prog_1_method_5_code
  | 58 => prog_1_method_17_code
  | 59 => prog_1_method_16_code
  | 60 => prog_1_method_7_code
  | 61 => prog_1_method_9_code
  | 62 => prog_1_method_8_code
  | 63 => prog_1_method_43_code
  | 64 => prog_1_method_14_code
  | 65 => prog_1_method_12_code
  | 66 => prog_1_method_10_code
  | 67 => prog_1_method_11_code
  | 68 => prog_1_method_66_code
  | 69 => prog_1_method_64_code
  | 70 => prog_1_method_65_code
  | 71 => prog_1_method_67_code
  | 72 => prog_1_method_68_code
  | 73 => prog_1_method_69_code
  | 74 => prog_24_method_1_code
  | 75 => prog_24_method_2_code
  | 76 => prog_16_method_1_code
  | 77 => prog_28_method_1_code
  | 78 => prog_28_method_2_code
  | 79 => prog_28_method_3_code
  | 80 => prog_28_method_4_code
  | 81 => prog_28_method_73_code
  | 82 => prog_28_method_30_code
  | 83 => prog_28_method_18_code
  | 84 => prog_28_method_22_code
  | 85 => prog_28_method_20_code
  | 86 => prog_28_method_6_code
  | 87 => prog_28_method_5_code
  | 88 => prog_28_method_19_code
  | 89 => prog_28_method_12_code
  | 90 => prog_28_method_10_code
  | 91 => prog_28_method_8_code
  | 92 => prog_28_method_7_code
  | 93 => prog_28_method_15_code
  | 94 => prog_28_method_25_code
  | 95 => prog_28_method_24_code
  | 96 => prog_28_method_23_code
  | 97 => prog_28_method_21_code
  | 98 => prog_28_method_29_code
  | 99 => prog_28_method_11_code
  | 100 => prog_28_method_9_code
  | 101 => prog_28_method_14_code
  | 102 => prog_28_method_26_code
  | 103 => prog_28_method_13_code
  | 104 => prog_28_method_28_code
  | 105 => prog_28_method_17_code
  | 106 => prog_28_method_27_code
  | 107 => prog_28_method_16_code
  | 108 => prog_28_method_34_code
  | 109 => prog_28_method_33_code
  | 110 => prog_28_method_31_code
  | 111 => prog_28_method_32_code
  | 112 => prog_28_method_52_code
  | 113 => prog_28_method_35_code
  | 114 => prog_28_method_50_code
  | 115 => prog_28_method_41_code
  | 116 => prog_28_method_36_code
  | 117 => prog_28_method_45_code
  | 118 => prog_28_method_38_code
  | 119 => prog_28_method_37_code
  | 120 => prog_28_method_44_code
  | 121 => prog_28_method_42_code
  | 122 => prog_28_method_49_code
  | 123 => prog_28_method_40_code
  | 124 => prog_28_method_39_code
  | 125 => prog_28_method_47_code
  | 126 => prog_28_method_46_code
  | 127 => prog_28_method_51_code
  | 128 => prog_28_method_43_code
  | 129 => prog_28_method_48_code
  | 130 => prog_28_method_72_code
  | 131 => prog_28_method_53_code
  | 132 => prog_28_method_74_code
  | 133 => prog_28_method_76_code
  | 134 => prog_28_method_75_code
  | 135 => prog_28_method_62_code
  | 136 => prog_28_method_69_code
  | 137 => prog_28_method_55_code
  | 138 => prog_28_method_54_code
  | 139 => prog_28_method_68_code
  | 140 => prog_28_method_56_code
  | 141 => prog_28_method_63_code
  | 142 => prog_28_method_57_code
  | 143 => prog_28_method_58_code
  | 144 => prog_28_method_60_code
  | 145 => prog_28_method_59_code
  | 146 => prog_28_method_61_code
  | 147 => prog_28_method_64_code
  | 148 => prog_28_method_66_code
  | 149 => prog_28_method_65_code
  | 150 => prog_28_method_70_code
  | 151 => prog_28_method_71_code
  | 152 => prog_28_method_67_code
  | 153 => prog_28_method_77_code
  | 154 => prog_28_method_79_code
  | 155 => prog_28_method_78_code
  | 156 => prog_28_method_80_code
  | 157 => prog_28_method_81_code
  | 158 => prog_28_method_82_code
  | 159 => prog_20_method_1_code
  | 160 => prog_20_method_2_code
  | 161 => prog_20_method_3_code
  | 162 => prog_20_method_4_code
  | 163 => prog_18_method_1_code
  | 164 => prog_18_method_2_code
  | 165 => prog_18_method_3_code
  | 166 => prog_18_method_4_code
  | 167 => prog_15_method_1_code
  | 168 => prog_15_method_2_code
  | 169 => prog_15_method_3_code
  | 170 => prog_15_method_4_code
  | 171 => prog_3_method_1_code
  | 172 => prog_3_method_2_code
  | 173 => prog_3_method_3_code
  | 174 => prog_3_method_4_code
  | 175 => prog_13_method_1_code
  | 176 => prog_13_method_2_code
  | 177 => prog_13_method_3_code
  | 178 => prog_13_method_4_code
  | 179 => prog_7_method_1_code
  | 180 => prog_7_method_2_code
  | 181 => prog_7_method_3_code
  | 182 => prog_7_method_4_code
  | 183 => prog_21_method_4_code
  | 184 => prog_21_method_1_code
  | 185 => prog_21_method_2_code
  | 186 => prog_21_method_3_code
  | 187 => prog_2_method_4_code
  | 188 => prog_2_method_1_code
  | 189 => prog_2_method_2_code
  | 190 => prog_2_method_3_code
  | 191 => prog_4_method_4_code
  | 192 => prog_4_method_1_code
  | 193 => prog_4_method_2_code
  | 194 => prog_4_method_3_code
  | 195 => prog_12_method_1_code
  | 196 => prog_12_method_2_code
  | 197 => prog_12_method_3_code
  | 198 => prog_12_method_4_code
  | 199 => prog_14_method_1_code
  | 200 => prog_14_method_2_code
  | 201 => prog_14_method_3_code
  | 202 => prog_14_method_4_code
  | 203 => prog_22_method_1_code
  | 204 => prog_22_method_5_code
  | 205 => prog_22_method_7_code
  | 206 => prog_22_method_6_code
  | 207 => prog_26_method_1_code
  | 208 => prog_26_method_5_code
  | 209 => prog_5_method_1_code
  | 210 => prog_5_method_5_code
  | 211 => prog_6_method_1_code
  | 212 => prog_6_method_5_code
  | 213 => prog_8_method_1_code
  | 214 => prog_8_method_6_code
  | 215 => prog_8_method_5_code
  | 216 => prog_10_method_1_code
  | 217 => prog_9_method_1_code
  | 218 => prog_9_method_5_code
  | 219 => prog_9_method_6_code
  | 220 => prog_35_method_1_code
  | _ => ⟨#[]⟩
def am_mL (m : Nat) : Nat := [3, 4, 3, 3, 2, 1, 2, 1, 2, 5, 1, 2, 5, 2, 1, 4, 2, 2, 3, 8, 5, 3, 4, 2, 1, 2, 2, 1, 1, 1, 4, 2, 3, 3, 3, 2, 3, 2, 1, 1, 5, 4, 1, 2, 4, 1, 3, 2, 3, 1, 2, 3, 3, 2, 4, 1, 4, 3, 2, 2, 3, 3, 2, 3, 4, 4, 2, 3, 2, 1, 3, 1, 4, 1, 4, 2, 1, 1, 1, 2, 1, 1, 3, 2, 5, 1, 1, 1, 3, 2, 1, 2, 3, 4, 4, 6, 2, 1, 4, 1, 1, 4, 7, 4, 2, 3, 4, 3, 3, 3, 3, 3, 6, 4, 5, 2, 1, 6, 5, 3, 3, 1, 3, 8, 3, 4, 2, 4, 5, 8, 2, 6, 2, 3, 1, 1, 4, 3, 2, 4, 3, 5, 2, 2, 3, 3, 4, 6, 8, 4, 4, 5, 10, 2, 3, 6, 1, 5, 1, 4, 2, 3, 4, 4, 2, 5, 4, 2, 3, 4, 4, 3, 2, 5, 4, 4, 2, 4, 5, 2, 3, 6, 10, 3, 3, 2, 2, 3, 2, 2, 3, 4, 3, 2, 3, 3, 2, 4, 5, 5, 3, 4, 5, 4, 1, 1, 1, 2, 1, 3, 1, 2, 1, 3, 1, 1, 3, 3, 1, 1, 1].getD m 0
def am_rt (m : Nat) : Option FieldType := match m with
  | 0 => (Option.some Jvm.ClassFile.FieldType.int)
  | 1 => (Option.some Jvm.ClassFile.FieldType.int)
  | 2 => (Option.some Jvm.ClassFile.FieldType.int)
  | 3 => (Option.some Jvm.ClassFile.FieldType.int)
  | 4 => (Option.some Jvm.ClassFile.FieldType.int)
  | 5 => (Option.none : Option Jvm.ClassFile.FieldType)
  | 6 => (Option.some Jvm.ClassFile.FieldType.boolean)
  | 7 => (Option.none : Option Jvm.ClassFile.FieldType)
  | 8 => (Option.some Jvm.ClassFile.FieldType.int)
  | 9 => (Option.some Jvm.ClassFile.FieldType.int)
  | 10 => (Option.some Jvm.ClassFile.FieldType.boolean)
  | 11 => (Option.none : Option Jvm.ClassFile.FieldType)
  | 12 => (Option.none : Option Jvm.ClassFile.FieldType)
  | 13 => (Option.none : Option Jvm.ClassFile.FieldType)
  | 14 => (Option.some (Jvm.ClassFile.FieldType.object "FunDesk$Value"))
  | 15 => (Option.none : Option Jvm.ClassFile.FieldType)
  | 16 => (Option.some Jvm.ClassFile.FieldType.int)
  | 17 => (Option.some Jvm.ClassFile.FieldType.double)
  | 18 => (Option.none : Option Jvm.ClassFile.FieldType)
  | 19 => (Option.none : Option Jvm.ClassFile.FieldType)
  | 20 => (Option.none : Option Jvm.ClassFile.FieldType)
  | 21 => (Option.none : Option Jvm.ClassFile.FieldType)
  | 22 => (Option.none : Option Jvm.ClassFile.FieldType)
  | 23 => (Option.some Jvm.ClassFile.FieldType.int)
  | 24 => (Option.some Jvm.ClassFile.FieldType.int)
  | 25 => (Option.some Jvm.ClassFile.FieldType.int)
  | 26 => (Option.some (Jvm.ClassFile.FieldType.object "FunDesk$Expr"))
  | 27 => (Option.none : Option Jvm.ClassFile.FieldType)
  | 28 => (Option.some Jvm.ClassFile.FieldType.char)
  | 29 => (Option.some Jvm.ClassFile.FieldType.char)
  | 30 => (Option.some (Jvm.ClassFile.FieldType.object "FunDesk$Expr"))
  | 31 => (Option.some (Jvm.ClassFile.FieldType.object "FunDesk$Expr"))
  | 32 => (Option.some (Jvm.ClassFile.FieldType.object "FunDesk$Expr"))
  | 33 => (Option.some (Jvm.ClassFile.FieldType.object "FunDesk$Expr"))
  | 34 => (Option.some (Jvm.ClassFile.FieldType.object "FunDesk$Expr"))
  | 35 => (Option.some (Jvm.ClassFile.FieldType.object "FunDesk$Expr"))
  | 36 => (Option.some (Jvm.ClassFile.FieldType.object "FunDesk$Expr"))
  | 37 => (Option.some Jvm.ClassFile.FieldType.boolean)
  | 38 => (Option.some Jvm.ClassFile.FieldType.boolean)
  | 39 => (Option.some Jvm.ClassFile.FieldType.boolean)
  | 40 => (Option.some (Jvm.ClassFile.FieldType.object "FunDesk$Expr"))
  | 41 => (Option.some Jvm.ClassFile.FieldType.int)
  | 42 => (Option.some (Jvm.ClassFile.FieldType.object "FunDesk$Expr"))
  | 43 => (Option.some Jvm.ClassFile.FieldType.boolean)
  | 44 => (Option.some Jvm.ClassFile.FieldType.int)
  | 45 => (Option.some (Jvm.ClassFile.FieldType.object "FunDesk$Expr"))
  | 46 => (Option.some (Jvm.ClassFile.FieldType.object "FunDesk$Expr"))
  | 47 => (Option.some (Jvm.ClassFile.FieldType.object "FunDesk$Pattern"))
  | 48 => (Option.some (Jvm.ClassFile.FieldType.object "FunDesk$Pattern"))
  | 49 => (Option.some (Jvm.ClassFile.FieldType.object "FunDesk$Pattern"))
  | 50 => (Option.some Jvm.ClassFile.FieldType.char)
  | 51 => (Option.some (Jvm.ClassFile.FieldType.object "FunDesk$Scope"))
  | 52 => (Option.some (Jvm.ClassFile.FieldType.object "FunDesk$Type"))
  | 53 => (Option.some (Jvm.ClassFile.FieldType.object "FunDesk$Type"))
  | 54 => (Option.none : Option Jvm.ClassFile.FieldType)
  | 55 => (Option.none : Option Jvm.ClassFile.FieldType)
  | 56 => (Option.some Jvm.ClassFile.FieldType.int)
  | 57 => (Option.some Jvm.ClassFile.FieldType.boolean)
  | 58 => (Option.some (Jvm.ClassFile.FieldType.object "FunDesk$Type"))
  | 59 => (Option.some (Jvm.ClassFile.FieldType.object "FunDesk$Type"))
  | 60 => (Option.none : Option Jvm.ClassFile.FieldType)
  | 61 => (Option.some (Jvm.ClassFile.FieldType.object "FunDesk$Type"))
  | 62 => (Option.some Jvm.ClassFile.FieldType.boolean)
  | 63 => (Option.some Jvm.ClassFile.FieldType.int)
  | 64 => (Option.some Jvm.ClassFile.FieldType.int)
  | 65 => (Option.none : Option Jvm.ClassFile.FieldType)
  | 66 => (Option.none : Option Jvm.ClassFile.FieldType)
  | 67 => (Option.none : Option Jvm.ClassFile.FieldType)
  | 68 => (Option.some Jvm.ClassFile.FieldType.int)
  | 69 => (Option.none : Option Jvm.ClassFile.FieldType)
  | 70 => (Option.some Jvm.ClassFile.FieldType.int)
  | 71 => (Option.some Jvm.ClassFile.FieldType.double)
  | 72 => (Option.none : Option Jvm.ClassFile.FieldType)
  | 73 => (Option.none : Option Jvm.ClassFile.FieldType)
  | 74 => (Option.none : Option Jvm.ClassFile.FieldType)
  | 75 => (Option.some (Jvm.ClassFile.FieldType.object "FunDesk$Type"))
  | 76 => (Option.none : Option Jvm.ClassFile.FieldType)
  | 77 => (Option.none : Option Jvm.ClassFile.FieldType)
  | 78 => (Option.some Jvm.ClassFile.FieldType.int)
  | 79 => (Option.some Jvm.ClassFile.FieldType.boolean)
  | 80 => (Option.none : Option Jvm.ClassFile.FieldType)
  | 81 => (Option.some Jvm.ClassFile.FieldType.int)
  | 82 => (Option.some Jvm.ClassFile.FieldType.boolean)
  | 83 => (Option.none : Option Jvm.ClassFile.FieldType)
  | 84 => (Option.none : Option Jvm.ClassFile.FieldType)
  | 85 => (Option.none : Option Jvm.ClassFile.FieldType)
  | 86 => (Option.some Jvm.ClassFile.FieldType.char)
  | 87 => (Option.some Jvm.ClassFile.FieldType.char)
  | 88 => (Option.none : Option Jvm.ClassFile.FieldType)
  | 89 => (Option.some Jvm.ClassFile.FieldType.int)
  | 90 => (Option.some Jvm.ClassFile.FieldType.boolean)
  | 91 => (Option.none : Option Jvm.ClassFile.FieldType)
  | 92 => (Option.some Jvm.ClassFile.FieldType.boolean)
  | 93 => (Option.none : Option Jvm.ClassFile.FieldType)
  | 94 => (Option.none : Option Jvm.ClassFile.FieldType)
  | 95 => (Option.none : Option Jvm.ClassFile.FieldType)
  | 96 => (Option.none : Option Jvm.ClassFile.FieldType)
  | 97 => (Option.none : Option Jvm.ClassFile.FieldType)
  | 98 => (Option.none : Option Jvm.ClassFile.FieldType)
  | 99 => (Option.some Jvm.ClassFile.FieldType.boolean)
  | 100 => (Option.some Jvm.ClassFile.FieldType.boolean)
  | 101 => (Option.some Jvm.ClassFile.FieldType.int)
  | 102 => (Option.none : Option Jvm.ClassFile.FieldType)
  | 103 => (Option.some Jvm.ClassFile.FieldType.int)
  | 104 => (Option.none : Option Jvm.ClassFile.FieldType)
  | 105 => (Option.none : Option Jvm.ClassFile.FieldType)
  | 106 => (Option.none : Option Jvm.ClassFile.FieldType)
  | 107 => (Option.none : Option Jvm.ClassFile.FieldType)
  | 108 => (Option.some Jvm.ClassFile.FieldType.boolean)
  | 109 => (Option.none : Option Jvm.ClassFile.FieldType)
  | 110 => (Option.none : Option Jvm.ClassFile.FieldType)
  | 111 => (Option.none : Option Jvm.ClassFile.FieldType)
  | 112 => (Option.some Jvm.ClassFile.FieldType.boolean)
  | 113 => (Option.some Jvm.ClassFile.FieldType.int)
  | 114 => (Option.none : Option Jvm.ClassFile.FieldType)
  | 115 => (Option.none : Option Jvm.ClassFile.FieldType)
  | 116 => (Option.some Jvm.ClassFile.FieldType.int)
  | 117 => (Option.some Jvm.ClassFile.FieldType.int)
  | 118 => (Option.some Jvm.ClassFile.FieldType.int)
  | 119 => (Option.some Jvm.ClassFile.FieldType.int)
  | 120 => (Option.some Jvm.ClassFile.FieldType.int)
  | 121 => (Option.some Jvm.ClassFile.FieldType.int)
  | 122 => (Option.none : Option Jvm.ClassFile.FieldType)
  | 123 => (Option.none : Option Jvm.ClassFile.FieldType)
  | 124 => (Option.some Jvm.ClassFile.FieldType.boolean)
  | 125 => (Option.none : Option Jvm.ClassFile.FieldType)
  | 126 => (Option.some Jvm.ClassFile.FieldType.int)
  | 127 => (Option.none : Option Jvm.ClassFile.FieldType)
  | 128 => (Option.none : Option Jvm.ClassFile.FieldType)
  | 129 => (Option.none : Option Jvm.ClassFile.FieldType)
  | 130 => (Option.none : Option Jvm.ClassFile.FieldType)
  | 131 => (Option.none : Option Jvm.ClassFile.FieldType)
  | 132 => (Option.some Jvm.ClassFile.FieldType.int)
  | 133 => (Option.some Jvm.ClassFile.FieldType.int)
  | 134 => (Option.some Jvm.ClassFile.FieldType.boolean)
  | 135 => (Option.some Jvm.ClassFile.FieldType.boolean)
  | 136 => (Option.none : Option Jvm.ClassFile.FieldType)
  | 137 => (Option.none : Option Jvm.ClassFile.FieldType)
  | 138 => (Option.none : Option Jvm.ClassFile.FieldType)
  | 139 => (Option.some Jvm.ClassFile.FieldType.int)
  | 140 => (Option.none : Option Jvm.ClassFile.FieldType)
  | 141 => (Option.none : Option Jvm.ClassFile.FieldType)
  | 142 => (Option.some Jvm.ClassFile.FieldType.int)
  | 143 => (Option.some Jvm.ClassFile.FieldType.int)
  | 144 => (Option.none : Option Jvm.ClassFile.FieldType)
  | 145 => (Option.some Jvm.ClassFile.FieldType.double)
  | 146 => (Option.none : Option Jvm.ClassFile.FieldType)
  | 147 => (Option.none : Option Jvm.ClassFile.FieldType)
  | 148 => (Option.none : Option Jvm.ClassFile.FieldType)
  | 149 => (Option.none : Option Jvm.ClassFile.FieldType)
  | 150 => (Option.none : Option Jvm.ClassFile.FieldType)
  | 151 => (Option.none : Option Jvm.ClassFile.FieldType)
  | 152 => (Option.some Jvm.ClassFile.FieldType.boolean)
  | 153 => (Option.some Jvm.ClassFile.FieldType.int)
  | 154 => (Option.some Jvm.ClassFile.FieldType.int)
  | 155 => (Option.some Jvm.ClassFile.FieldType.int)
  | 156 => (Option.some Jvm.ClassFile.FieldType.double)
  | 157 => (Option.none : Option Jvm.ClassFile.FieldType)
  | 158 => (Option.none : Option Jvm.ClassFile.FieldType)
  | 159 => (Option.none : Option Jvm.ClassFile.FieldType)
  | 160 => (Option.none : Option Jvm.ClassFile.FieldType)
  | 161 => (Option.some (Jvm.ClassFile.FieldType.object "FunDesk$Type"))
  | 162 => (Option.none : Option Jvm.ClassFile.FieldType)
  | 163 => (Option.none : Option Jvm.ClassFile.FieldType)
  | 164 => (Option.none : Option Jvm.ClassFile.FieldType)
  | 165 => (Option.some (Jvm.ClassFile.FieldType.object "FunDesk$Type"))
  | 166 => (Option.none : Option Jvm.ClassFile.FieldType)
  | 167 => (Option.none : Option Jvm.ClassFile.FieldType)
  | 168 => (Option.none : Option Jvm.ClassFile.FieldType)
  | 169 => (Option.some (Jvm.ClassFile.FieldType.object "FunDesk$Type"))
  | 170 => (Option.none : Option Jvm.ClassFile.FieldType)
  | 171 => (Option.none : Option Jvm.ClassFile.FieldType)
  | 172 => (Option.none : Option Jvm.ClassFile.FieldType)
  | 173 => (Option.some (Jvm.ClassFile.FieldType.object "FunDesk$Type"))
  | 174 => (Option.none : Option Jvm.ClassFile.FieldType)
  | 175 => (Option.none : Option Jvm.ClassFile.FieldType)
  | 176 => (Option.none : Option Jvm.ClassFile.FieldType)
  | 177 => (Option.some (Jvm.ClassFile.FieldType.object "FunDesk$Type"))
  | 178 => (Option.none : Option Jvm.ClassFile.FieldType)
  | 179 => (Option.none : Option Jvm.ClassFile.FieldType)
  | 180 => (Option.none : Option Jvm.ClassFile.FieldType)
  | 181 => (Option.some (Jvm.ClassFile.FieldType.object "FunDesk$Type"))
  | 182 => (Option.none : Option Jvm.ClassFile.FieldType)
  | 183 => (Option.some Jvm.ClassFile.FieldType.boolean)
  | 184 => (Option.none : Option Jvm.ClassFile.FieldType)
  | 185 => (Option.some (Jvm.ClassFile.FieldType.object "FunDesk$Scope"))
  | 186 => (Option.some (Jvm.ClassFile.FieldType.object "FunDesk$Type"))
  | 187 => (Option.some Jvm.ClassFile.FieldType.boolean)
  | 188 => (Option.none : Option Jvm.ClassFile.FieldType)
  | 189 => (Option.some (Jvm.ClassFile.FieldType.object "FunDesk$Scope"))
  | 190 => (Option.some (Jvm.ClassFile.FieldType.object "FunDesk$Type"))
  | 191 => (Option.some Jvm.ClassFile.FieldType.boolean)
  | 192 => (Option.none : Option Jvm.ClassFile.FieldType)
  | 193 => (Option.some (Jvm.ClassFile.FieldType.object "FunDesk$Scope"))
  | 194 => (Option.some (Jvm.ClassFile.FieldType.object "FunDesk$Type"))
  | 195 => (Option.none : Option Jvm.ClassFile.FieldType)
  | 196 => (Option.none : Option Jvm.ClassFile.FieldType)
  | 197 => (Option.some (Jvm.ClassFile.FieldType.object "FunDesk$Type"))
  | 198 => (Option.none : Option Jvm.ClassFile.FieldType)
  | 199 => (Option.none : Option Jvm.ClassFile.FieldType)
  | 200 => (Option.none : Option Jvm.ClassFile.FieldType)
  | 201 => (Option.some (Jvm.ClassFile.FieldType.object "FunDesk$Type"))
  | 202 => (Option.none : Option Jvm.ClassFile.FieldType)
  | 203 => (Option.none : Option Jvm.ClassFile.FieldType)
  | 204 => (Option.some Jvm.ClassFile.FieldType.char)
  | 205 => (Option.some (Jvm.ClassFile.FieldType.object "FunDesk$Scope"))
  | 206 => (Option.some (Jvm.ClassFile.FieldType.object "FunDesk$Type"))
  | 207 => (Option.none : Option Jvm.ClassFile.FieldType)
  | 208 => (Option.some Jvm.ClassFile.FieldType.int)
  | 209 => (Option.none : Option Jvm.ClassFile.FieldType)
  | 210 => (Option.some Jvm.ClassFile.FieldType.double)
  | 211 => (Option.none : Option Jvm.ClassFile.FieldType)
  | 212 => (Option.some Jvm.ClassFile.FieldType.int)
  | 213 => (Option.none : Option Jvm.ClassFile.FieldType)
  | 214 => (Option.some (Jvm.ClassFile.FieldType.object "FunDesk$Env"))
  | 215 => (Option.some Jvm.ClassFile.FieldType.int)
  | 216 => (Option.none : Option Jvm.ClassFile.FieldType)
  | 217 => (Option.none : Option Jvm.ClassFile.FieldType)
  | 218 => (Option.some (Jvm.ClassFile.FieldType.object "FunDesk$Value"))
  | 219 => (Option.some (Jvm.ClassFile.FieldType.object "FunDesk$Value"))
  | 220 => (Option.none : Option Jvm.ClassFile.FieldType)
  | _ => none
def am_ow (m : Nat) : Nat := [0, 0, 0, 0, 0, 1, 1, 1, 1, 1, 1, 1, 1, 1, 1, 1, 1, 1, 1, 1, 1, 1, 1, 1, 1, 1, 1, 1, 1, 1, 1, 1, 1, 1, 1, 1, 1, 1, 1, 1, 1, 1, 1, 1, 1, 1, 1, 1, 1, 1, 1, 1, 1, 1, 1, 1, 1, 1, 1, 1, 1, 1, 1, 1, 1, 1, 1, 1, 1, 1, 1, 1, 1, 1, 2, 2, 3, 4, 4, 4, 4, 4, 4, 4, 4, 4, 4, 4, 4, 4, 4, 4, 4, 4, 4, 4, 4, 4, 4, 4, 4, 4, 4, 4, 4, 4, 4, 4, 4, 4, 4, 4, 4, 4, 4, 4, 4, 4, 4, 4, 4, 4, 4, 4, 4, 4, 4, 4, 4, 4, 4, 4, 4, 4, 4, 4, 4, 4, 4, 4, 4, 4, 4, 4, 4, 4, 4, 4, 4, 4, 4, 4, 4, 4, 4, 4, 4, 4, 4, 5, 5, 5, 5, 6, 6, 6, 6, 7, 7, 7, 7, 8, 8, 8, 8, 9, 9, 9, 9, 10, 10, 10, 10, 11, 11, 11, 11, 12, 12, 12, 12, 13, 13, 13, 13, 14, 14, 14, 14, 15, 15, 15, 15, 16, 16, 16, 16, 17, 17, 18, 18, 19, 19, 20, 20, 20, 21, 22, 22, 22, 40].getD m 0
def am_np (m : Nat) : Nat := [2, 3, 2, 2, 1, 0, 1, 0, 1, 1, 1, 1, 0, 1, 0, 2, 1, 1, 1, 3, 3, 1, 1, 1, 0, 0, 0, 1, 0, 0, 1, 0, 0, 0, 0, 0, 0, 1, 1, 1, 0, 1, 0, 1, 1, 0, 0, 0, 0, 0, 0, 2, 3, 0, 2, 1, 2, 2, 2, 1, 2, 2, 1, 2, 2, 2, 1, 1, 1, 0, 1, 0, 1, 0, 3, 0, 0, 0, 0, 1, 0, 0, 0, 1, 1, 0, 0, 0, 2, 0, 1, 1, 1, 3, 1, 1, 1, 0, 1, 1, 1, 1, 1, 1, 1, 1, 1, 2, 0, 1, 2, 1, 0, 3, 1, 1, 0, 1, 1, 1, 1, 0, 0, 2, 2, 1, 1, 2, 1, 2, 0, 1, 1, 1, 0, 1, 0, 2, 1, 1, 1, 0, 1, 1, 1, 1, 2, 1, 3, 3, 1, 3, 2, 1, 1, 1, 0, 1, 0, 3, 1, 2, 2, 3, 1, 2, 2, 1, 1, 2, 2, 2, 1, 2, 2, 3, 1, 2, 2, 1, 1, 2, 2, 2, 2, 1, 1, 2, 1, 1, 1, 2, 2, 1, 1, 2, 1, 2, 2, 4, 1, 2, 2, 3, 0, 0, 0, 1, 0, 1, 0, 1, 0, 2, 0, 0, 2, 2, 0, 0, 0].getD m 0
/-- 0: static, 1: of an object, 2: a constructor -/
def am_kd (m : Nat) : Nat := [0, 0, 0, 0, 0, 2, 1, 1, 1, 1, 0, 1, 1, 1, 1, 1, 1, 1, 1, 1, 1, 1, 1, 1, 1, 1, 1, 0, 1, 1, 1, 1, 1, 1, 1, 1, 1, 1, 0, 0, 1, 1, 1, 1, 1, 1, 1, 1, 1, 1, 1, 0, 0, 1, 0, 0, 0, 0, 0, 1, 0, 0, 0, 1, 0, 0, 1, 1, 1, 1, 0, 1, 1, 1, 2, 1, 2, 2, 1, 1, 1, 1, 1, 1, 1, 1, 1, 1, 1, 1, 0, 1, 1, 1, 1, 1, 1, 1, 1, 0, 0, 1, 1, 1, 1, 1, 1, 1, 1, 1, 1, 1, 1, 1, 1, 1, 1, 1, 1, 1, 1, 1, 1, 1, 1, 1, 1, 1, 1, 1, 1, 1, 1, 1, 1, 0, 1, 1, 1, 1, 1, 1, 0, 0, 1, 1, 1, 1, 1, 1, 1, 1, 1, 1, 1, 1, 1, 1, 1, 2, 1, 1, 1, 2, 1, 1, 1, 2, 1, 1, 1, 2, 1, 1, 1, 2, 1, 1, 1, 2, 1, 1, 1, 1, 2, 1, 1, 1, 2, 1, 1, 1, 2, 1, 1, 2, 1, 1, 1, 2, 1, 1, 1, 2, 1, 1, 1, 2, 1, 2, 1, 2, 1, 2, 1, 1, 2, 2, 1, 1, 2].getD m 0
def am_hs (m : Nat) : List am_Hn := match m with
  | 0 => [(0, 8, 11, 13, 23), (0, 8, 14, 15, 24), (0, 8, 17, 17, 25)]
  | 1 => [(0, 9, 12, 23, 26), (0, 9, 15, 25, 27)]
  | 2 => [(0, 7, 10, 23, 26)]
  | 3 => [(0, 5, 8, 23, 26), (0, 5, 11, 25, 27)]
  | 4 => [(0, 4, 7, 23, 26)]
  | 25 => [(15, 91, 94, 211, 23), (15, 91, 97, 192, 24), (15, 91, 100, 118, 25)]
  | _ => []
def am_hh (m : Nat) : List (Nat × Nat × Nat × Nat) := (am_hs m).map am_hraw
/-- what the tables say of a method -/
def am_mok (m : Nat) : Prop := am_cdw (am_y m) (am_by m) (am_mL m) (am_rt m) (am_hh m) ∈ lw_all ∧ Cond.initialized (am_y m).cls ∈ lw_all ∧ (am_y m).cls = am_on (am_ow m) ∧ plainName (am_y m).cls = true ∧ ((am_y m).cls ≠ "java/lang/invoke/MethodHandle" ∧ (am_y m).cls ≠ "java/lang/invoke/VarHandle") ∧ (parseMethodDescriptor (am_y m).desc).map (fun d => d.parameters.length) = some (am_np m) ∧
  (am_kd m = 0 → Cond.static (am_y m) ∈ lw_all) ∧ (am_kd m ≠ 0 → Cond.instanceMethod (am_y m) ∈ lw_all) ∧ (am_kd m = 2 → (am_y m).name = "<init>" ∧ am_hh m = [] ∧ am_rt m = none) ∧ (am_kd m ≠ 2 → (am_y m).name ≠ "<init>")
theorem q569 : (Jvm.Cond.codeWith ({ cls := "FunDeskLaw", name := "load", desc := "(LFunDesk;[J)I" } : Jvm.MethodName) method_3_code (3 : Nat) (Option.some Jvm.ClassFile.FieldType.int) [((0 : Nat), (8 : Nat), (11 : Nat), (13 : Nat)), ((0 : Nat), (8 : Nat), (14 : Nat), (15 : Nat)), ((0 : Nat), (8 : Nat), (17 : Nat), (17 : Nat))]) ∈ lw_all := lw_g (lw_at lw_m2 223 rfl) rfl
theorem q106 : (Jvm.Cond.initialized "FunDeskLaw") ∈ lw_all := lw_g (lw_at lw_m1 0 rfl) rfl
theorem q568 : (Jvm.Cond.static ({ cls := "FunDeskLaw", name := "load", desc := "(LFunDesk;[J)I" } : Jvm.MethodName)) ∈ lw_all := lw_g (lw_at lw_m2 222 rfl) rfl
theorem am_mok0 : am_mok 0 := ⟨q569, q106, rfl, (by decide), ⟨by decide, by decide⟩, (by decide +kernel), fun _ => q568, fun h => absurd rfl h, fun h => absurd h (by decide), fun _ => (by decide)⟩
theorem q1335 : (Jvm.Cond.codeWith ({ cls := "FunDeskLaw", name := "value", desc := "(LFunDesk;I[J)I" } : Jvm.MethodName) method_4_code (4 : Nat) (Option.some Jvm.ClassFile.FieldType.int) [((0 : Nat), (9 : Nat), (12 : Nat), (23 : Nat)), ((0 : Nat), (9 : Nat), (15 : Nat), (25 : Nat))]) ∈ lw_all := lw_g (lw_at lw_m6 29 rfl) rfl
theorem q1334 : (Jvm.Cond.static ({ cls := "FunDeskLaw", name := "value", desc := "(LFunDesk;I[J)I" } : Jvm.MethodName)) ∈ lw_all := lw_g (lw_at lw_m6 28 rfl) rfl
theorem am_mok1 : am_mok 1 := ⟨q1335, q106, rfl, (by decide), ⟨by decide, by decide⟩, (by decide +kernel), fun _ => q1334, fun h => absurd rfl h, fun h => absurd h (by decide), fun _ => (by decide)⟩
theorem q1382 : (Jvm.Cond.codeWith ({ cls := "FunDeskLaw", name := "real", desc := "(LFunDesk;[D)I" } : Jvm.MethodName) method_5_code (3 : Nat) (Option.some Jvm.ClassFile.FieldType.int) [((0 : Nat), (7 : Nat), (10 : Nat), (23 : Nat))]) ∈ lw_all := lw_g (lw_at lw_m6 76 rfl) rfl
theorem q1381 : (Jvm.Cond.static ({ cls := "FunDeskLaw", name := "real", desc := "(LFunDesk;[D)I" } : Jvm.MethodName)) ∈ lw_all := lw_g (lw_at lw_m6 75 rfl) rfl
theorem am_mok2 : am_mok 2 := ⟨q1382, q106, rfl, (by decide), ⟨by decide, by decide⟩, (by decide +kernel), fun _ => q1381, fun h => absurd rfl h, fun h => absurd h (by decide), fun _ => (by decide)⟩
theorem q1389 : (Jvm.Cond.codeWith ({ cls := "FunDeskLaw", name := "item", desc := "(LFunDesk;I)I" } : Jvm.MethodName) method_6_code (3 : Nat) (Option.some Jvm.ClassFile.FieldType.int) [((0 : Nat), (5 : Nat), (8 : Nat), (23 : Nat)), ((0 : Nat), (5 : Nat), (11 : Nat), (25 : Nat))]) ∈ lw_all := lw_g (lw_at lw_m6 83 rfl) rfl
theorem q1388 : (Jvm.Cond.static ({ cls := "FunDeskLaw", name := "item", desc := "(LFunDesk;I)I" } : Jvm.MethodName)) ∈ lw_all := lw_g (lw_at lw_m6 82 rfl) rfl
theorem am_mok3 : am_mok 3 := ⟨q1389, q106, rfl, (by decide), ⟨by decide, by decide⟩, (by decide +kernel), fun _ => q1388, fun h => absurd rfl h, fun h => absurd h (by decide), fun _ => (by decide)⟩
theorem q1397 : (Jvm.Cond.codeWith ({ cls := "FunDeskLaw", name := "top", desc := "(LFunDesk;)I" } : Jvm.MethodName) method_7_code (2 : Nat) (Option.some Jvm.ClassFile.FieldType.int) [((0 : Nat), (4 : Nat), (7 : Nat), (23 : Nat))]) ∈ lw_all := lw_g (lw_at lw_m6 91 rfl) rfl
theorem q1396 : (Jvm.Cond.static ({ cls := "FunDeskLaw", name := "top", desc := "(LFunDesk;)I" } : Jvm.MethodName)) ∈ lw_all := lw_g (lw_at lw_m6 90 rfl) rfl
theorem am_mok4 : am_mok 4 := ⟨q1397, q106, rfl, (by decide), ⟨by decide, by decide⟩, (by decide +kernel), fun _ => q1396, fun h => absurd rfl h, fun h => absurd h (by decide), fun _ => (by decide)⟩
theorem q146 : (Jvm.Cond.code ({ cls := "FunDesk", name := "<init>", desc := "()V" } : Jvm.MethodName) prog_1_method_1_code (1 : Nat) (Option.none : Option Jvm.ClassFile.FieldType)) ∈ lw_all := lw_g (lw_at lw_m1 40 rfl) rfl
theorem q145 : (Jvm.Cond.instanceMethod ({ cls := "FunDesk", name := "<init>", desc := "()V" } : Jvm.MethodName)) ∈ lw_all := lw_g (lw_at lw_m1 39 rfl) rfl
theorem am_mok5 : am_mok 5 := ⟨q146, q107, rfl, (by decide), ⟨by decide, by decide⟩, (by decide +kernel), fun h => absurd h (by decide), fun _ => q145, fun _ => ⟨rfl, rfl, rfl⟩, fun h => absurd rfl h⟩
theorem q348 : (Jvm.Cond.code ({ cls := "FunDesk", name := "type", desc := "(C)Z" } : Jvm.MethodName) prog_1_method_57_code (2 : Nat) (Option.some Jvm.ClassFile.FieldType.boolean)) ∈ lw_all := lw_g (lw_at lw_m2 2 rfl) rfl
theorem q346 : (Jvm.Cond.instanceMethod ({ cls := "FunDesk", name := "type", desc := "(C)Z" } : Jvm.MethodName)) ∈ lw_all := lw_g (lw_at lw_m2 0 rfl) rfl
theorem am_mok6 : am_mok 6 := ⟨q348, q107, rfl, (by decide), ⟨by decide, by decide⟩, (by decide +kernel), fun h => absurd h (by decide), fun _ => q346, fun h => absurd h (by decide), fun _ => (by decide)⟩
theorem q352 : (Jvm.Cond.code ({ cls := "FunDesk", name := "wipe", desc := "()V" } : Jvm.MethodName) prog_1_method_58_code (1 : Nat) (Option.none : Option Jvm.ClassFile.FieldType)) ∈ lw_all := lw_g (lw_at lw_m2 6 rfl) rfl
theorem q350 : (Jvm.Cond.instanceMethod ({ cls := "FunDesk", name := "wipe", desc := "()V" } : Jvm.MethodName)) ∈ lw_all := lw_g (lw_at lw_m2 4 rfl) rfl
theorem am_mok7 : am_mok 7 := ⟨q352, q107, rfl, (by decide), ⟨by decide, by decide⟩, (by decide +kernel), fun h => absurd h (by decide), fun _ => q350, fun h => absurd h (by decide), fun _ => (by decide)⟩
theorem q356 : (Jvm.Cond.code ({ cls := "FunDesk", name := "shown", desc := "(I)I" } : Jvm.MethodName) prog_1_method_61_code (2 : Nat) (Option.some Jvm.ClassFile.FieldType.int)) ∈ lw_all := lw_g (lw_at lw_m2 10 rfl) rfl
theorem q354 : (Jvm.Cond.instanceMethod ({ cls := "FunDesk", name := "shown", desc := "(I)I" } : Jvm.MethodName)) ∈ lw_all := lw_g (lw_at lw_m2 8 rfl) rfl
theorem am_mok8 : am_mok 8 := ⟨q356, q107, rfl, (by decide), ⟨by decide, by decide⟩, (by decide +kernel), fun h => absurd h (by decide), fun _ => q354, fun h => absurd h (by decide), fun _ => (by decide)⟩
theorem q360 : (Jvm.Cond.code ({ cls := "FunDesk", name := "run", desc := "(I)I" } : Jvm.MethodName) prog_1_method_62_code (5 : Nat) (Option.some Jvm.ClassFile.FieldType.int)) ∈ lw_all := lw_g (lw_at lw_m2 14 rfl) rfl
theorem q358 : (Jvm.Cond.instanceMethod ({ cls := "FunDesk", name := "run", desc := "(I)I" } : Jvm.MethodName)) ∈ lw_all := lw_g (lw_at lw_m2 12 rfl) rfl
theorem am_mok9 : am_mok 9 := ⟨q360, q107, rfl, (by decide), ⟨by decide, by decide⟩, (by decide +kernel), fun h => absurd h (by decide), fun _ => q358, fun h => absurd h (by decide), fun _ => (by decide)⟩
theorem q363 : (Jvm.Cond.code ({ cls := "FunDesk", name := "counts", desc := "(LFunDesk$Op;)Z" } : Jvm.MethodName) prog_1_method_49_code (1 : Nat) (Option.some Jvm.ClassFile.FieldType.boolean)) ∈ lw_all := lw_g (lw_at lw_m2 17 rfl) rfl
theorem q362 : (Jvm.Cond.static ({ cls := "FunDesk", name := "counts", desc := "(LFunDesk$Op;)Z" } : Jvm.MethodName)) ∈ lw_all := lw_g (lw_at lw_m2 16 rfl) rfl
theorem am_mok10 : am_mok 10 := ⟨q363, q107, rfl, (by decide), ⟨by decide, by decide⟩, (by decide +kernel), fun _ => q362, fun h => absurd rfl h, fun h => absurd h (by decide), fun _ => (by decide)⟩
theorem q379 : (Jvm.Cond.code ({ cls := "FunDesk", name := "fail", desc := "(I)V" } : Jvm.MethodName) prog_1_method_48_code (2 : Nat) (Option.none : Option Jvm.ClassFile.FieldType)) ∈ lw_all := lw_g (lw_at lw_m2 33 rfl) rfl
theorem q378 : (Jvm.Cond.instanceMethod ({ cls := "FunDesk", name := "fail", desc := "(I)V" } : Jvm.MethodName)) ∈ lw_all := lw_g (lw_at lw_m2 32 rfl) rfl
theorem am_mok11 : am_mok 11 := ⟨q379, q107, rfl, (by decide), ⟨by decide, by decide⟩, (by decide +kernel), fun h => absurd h (by decide), fun _ => q378, fun h => absurd h (by decide), fun _ => (by decide)⟩
theorem q383 : (Jvm.Cond.code ({ cls := "FunDesk", name := "execute", desc := "()V" } : Jvm.MethodName) prog_1_method_50_code (5 : Nat) (Option.none : Option Jvm.ClassFile.FieldType)) ∈ lw_all := lw_g (lw_at lw_m2 37 rfl) rfl
theorem q382 : (Jvm.Cond.instanceMethod ({ cls := "FunDesk", name := "execute", desc := "()V" } : Jvm.MethodName)) ∈ lw_all := lw_g (lw_at lw_m2 36 rfl) rfl
theorem am_mok12 : am_mok 12 := ⟨q383, q107, rfl, (by decide), ⟨by decide, by decide⟩, (by decide +kernel), fun h => absurd h (by decide), fun _ => q382, fun h => absurd h (by decide), fun _ => (by decide)⟩
theorem q403 : (Jvm.Cond.code ({ cls := "FunDesk", name := "push", desc := "(LFunDesk$Value;)V" } : Jvm.MethodName) prog_1_method_44_code (2 : Nat) (Option.none : Option Jvm.ClassFile.FieldType)) ∈ lw_all := lw_g (lw_at lw_m2 57 rfl) rfl
theorem q402 : (Jvm.Cond.instanceMethod ({ cls := "FunDesk", name := "push", desc := "(LFunDesk$Value;)V" } : Jvm.MethodName)) ∈ lw_all := lw_g (lw_at lw_m2 56 rfl) rfl
theorem am_mok13 : am_mok 13 := ⟨q403, q107, rfl, (by decide), ⟨by decide, by decide⟩, (by decide +kernel), fun h => absurd h (by decide), fun _ => q402, fun h => absurd h (by decide), fun _ => (by decide)⟩
theorem q441 : (Jvm.Cond.code ({ cls := "FunDesk", name := "pop", desc := "()LFunDesk$Value;" } : Jvm.MethodName) prog_1_method_45_code (1 : Nat) (Option.some (Jvm.ClassFile.FieldType.object "FunDesk$Value"))) ∈ lw_all := lw_g (lw_at lw_m2 95 rfl) rfl
theorem q440 : (Jvm.Cond.instanceMethod ({ cls := "FunDesk", name := "pop", desc := "()LFunDesk$Value;" } : Jvm.MethodName)) ∈ lw_all := lw_g (lw_at lw_m2 94 rfl) rfl
theorem am_mok14 : am_mok 14 := ⟨q441, q107, rfl, (by decide), ⟨by decide, by decide⟩, (by decide +kernel), fun h => absurd h (by decide), fun _ => q440, fun h => absurd h (by decide), fun _ => (by decide)⟩
theorem q445 : (Jvm.Cond.code ({ cls := "FunDesk", name := "call", desc := "(LFunDesk$Value;LFunDesk$Value;)V" } : Jvm.MethodName) prog_1_method_51_code (4 : Nat) (Option.none : Option Jvm.ClassFile.FieldType)) ∈ lw_all := lw_g (lw_at lw_m2 99 rfl) rfl
theorem q444 : (Jvm.Cond.instanceMethod ({ cls := "FunDesk", name := "call", desc := "(LFunDesk$Value;LFunDesk$Value;)V" } : Jvm.MethodName)) ∈ lw_all := lw_g (lw_at lw_m2 98 rfl) rfl
theorem am_mok15 : am_mok 15 := ⟨q445, q107, rfl, (by decide), ⟨by decide, by decide⟩, (by decide +kernel), fun h => absurd h (by decide), fun _ => q444, fun h => absurd h (by decide), fun _ => (by decide)⟩
theorem q453 : (Jvm.Cond.code ({ cls := "FunDesk", name := "whole", desc := "(LFunDesk$Value;)I" } : Jvm.MethodName) prog_1_method_46_code (2 : Nat) (Option.some Jvm.ClassFile.FieldType.int)) ∈ lw_all := lw_g (lw_at lw_m2 107 rfl) rfl
theorem q452 : (Jvm.Cond.instanceMethod ({ cls := "FunDesk", name := "whole", desc := "(LFunDesk$Value;)I" } : Jvm.MethodName)) ∈ lw_all := lw_g (lw_at lw_m2 106 rfl) rfl
theorem am_mok16 : am_mok 16 := ⟨q453, q107, rfl, (by decide), ⟨by decide, by decide⟩, (by decide +kernel), fun h => absurd h (by decide), fun _ => q452, fun h => absurd h (by decide), fun _ => (by decide)⟩
theorem q461 : (Jvm.Cond.code ({ cls := "FunDesk", name := "broken", desc := "(LFunDesk$Value;)D" } : Jvm.MethodName) prog_1_method_47_code (2 : Nat) (Option.some Jvm.ClassFile.FieldType.double)) ∈ lw_all := lw_g (lw_at lw_m2 115 rfl) rfl
theorem q460 : (Jvm.Cond.instanceMethod ({ cls := "FunDesk", name := "broken", desc := "(LFunDesk$Value;)D" } : Jvm.MethodName)) ∈ lw_all := lw_g (lw_at lw_m2 114 rfl) rfl
theorem am_mok17 : am_mok 17 := ⟨q461, q107, rfl, (by decide), ⟨by decide, by decide⟩, (by decide +kernel), fun h => absurd h (by decide), fun _ => q460, fun h => absurd h (by decide), fun _ => (by decide)⟩
theorem q491 : (Jvm.Cond.code ({ cls := "FunDesk", name := "work", desc := "(I)V" } : Jvm.MethodName) prog_1_method_54_code (3 : Nat) (Option.none : Option Jvm.ClassFile.FieldType)) ∈ lw_all := lw_g (lw_at lw_m2 145 rfl) rfl
theorem q490 : (Jvm.Cond.instanceMethod ({ cls := "FunDesk", name := "work", desc := "(I)V" } : Jvm.MethodName)) ∈ lw_all := lw_g (lw_at lw_m2 144 rfl) rfl
theorem am_mok18 : am_mok 18 := ⟨q491, q107, rfl, (by decide), ⟨by decide, by decide⟩, (by decide +kernel), fun h => absurd h (by decide), fun _ => q490, fun h => absurd h (by decide), fun _ => (by decide)⟩
theorem q508 : (Jvm.Cond.code ({ cls := "FunDesk", name := "workReal", desc := "(IDD)V" } : Jvm.MethodName) prog_1_method_56_code (8 : Nat) (Option.none : Option Jvm.ClassFile.FieldType)) ∈ lw_all := lw_g (lw_at lw_m2 162 rfl) rfl
theorem q507 : (Jvm.Cond.instanceMethod ({ cls := "FunDesk", name := "workReal", desc := "(IDD)V" } : Jvm.MethodName)) ∈ lw_all := lw_g (lw_at lw_m2 161 rfl) rfl
theorem am_mok19 : am_mok 19 := ⟨q508, q107, rfl, (by decide), ⟨by decide, by decide⟩, (by decide +kernel), fun h => absurd h (by decide), fun _ => q507, fun h => absurd h (by decide), fun _ => (by decide)⟩
theorem q514 : (Jvm.Cond.code ({ cls := "FunDesk", name := "workWhole", desc := "(III)V" } : Jvm.MethodName) prog_1_method_55_code (5 : Nat) (Option.none : Option Jvm.ClassFile.FieldType)) ∈ lw_all := lw_g (lw_at lw_m2 168 rfl) rfl
theorem q513 : (Jvm.Cond.instanceMethod ({ cls := "FunDesk", name := "workWhole", desc := "(III)V" } : Jvm.MethodName)) ∈ lw_all := lw_g (lw_at lw_m2 167 rfl) rfl
theorem am_mok20 : am_mok 20 := ⟨q514, q107, rfl, (by decide), ⟨by decide, by decide⟩, (by decide +kernel), fun h => absurd h (by decide), fun _ => q513, fun h => absurd h (by decide), fun _ => (by decide)⟩
theorem q518 : (Jvm.Cond.code ({ cls := "FunDesk", name := "tie", desc := "(LFunDesk$Value;)V" } : Jvm.MethodName) prog_1_method_52_code (3 : Nat) (Option.none : Option Jvm.ClassFile.FieldType)) ∈ lw_all := lw_g (lw_at lw_m2 172 rfl) rfl
theorem q517 : (Jvm.Cond.instanceMethod ({ cls := "FunDesk", name := "tie", desc := "(LFunDesk$Value;)V" } : Jvm.MethodName)) ∈ lw_all := lw_g (lw_at lw_m2 171 rfl) rfl
theorem am_mok21 : am_mok 21 := ⟨q518, q107, rfl, (by decide), ⟨by decide, by decide⟩, (by decide +kernel), fun h => absurd h (by decide), fun _ => q517, fun h => absurd h (by decide), fun _ => (by decide)⟩
theorem q522 : (Jvm.Cond.code ({ cls := "FunDesk", name := "test", desc := "(I)V" } : Jvm.MethodName) prog_1_method_53_code (4 : Nat) (Option.none : Option Jvm.ClassFile.FieldType)) ∈ lw_all := lw_g (lw_at lw_m2 176 rfl) rfl
theorem q521 : (Jvm.Cond.instanceMethod ({ cls := "FunDesk", name := "test", desc := "(I)V" } : Jvm.MethodName)) ∈ lw_all := lw_g (lw_at lw_m2 175 rfl) rfl
theorem am_mok22 : am_mok 22 := ⟨q522, q107, rfl, (by decide), ⟨by decide, by decide⟩, (by decide +kernel), fun h => absurd h (by decide), fun _ => q521, fun h => absurd h (by decide), fun _ => (by decide)⟩
theorem q566 : (Jvm.Cond.code ({ cls := "FunDesk", name := "state", desc := "(I)I" } : Jvm.MethodName) prog_1_method_63_code (2 : Nat) (Option.some Jvm.ClassFile.FieldType.int)) ∈ lw_all := lw_g (lw_at lw_m2 220 rfl) rfl
theorem q564 : (Jvm.Cond.instanceMethod ({ cls := "FunDesk", name := "state", desc := "(I)I" } : Jvm.MethodName)) ∈ lw_all := lw_g (lw_at lw_m2 218 rfl) rfl
theorem am_mok23 : am_mok 23 := ⟨q566, q107, rfl, (by decide), ⟨by decide, by decide⟩, (by decide +kernel), fun h => absurd h (by decide), fun _ => q564, fun h => absurd h (by decide), fun _ => (by decide)⟩
theorem q576 : (Jvm.Cond.code ({ cls := "FunDesk", name := "load", desc := "()I" } : Jvm.MethodName) prog_1_method_60_code (1 : Nat) (Option.some Jvm.ClassFile.FieldType.int)) ∈ lw_all := lw_g (lw_at lw_m2 230 rfl) rfl
theorem q574 : (Jvm.Cond.instanceMethod ({ cls := "FunDesk", name := "load", desc := "()I" } : Jvm.MethodName)) ∈ lw_all := lw_g (lw_at lw_m2 228 rfl) rfl
theorem am_mok24 : am_mok 24 := ⟨q576, q107, rfl, (by decide), ⟨by decide, by decide⟩, (by decide +kernel), fun h => absurd h (by decide), fun _ => q574, fun h => absurd h (by decide), fun _ => (by decide)⟩
theorem q580 : (Jvm.Cond.codeWith ({ cls := "FunDesk", name := "attempt", desc := "()I" } : Jvm.MethodName) prog_1_method_59_code (2 : Nat) (Option.some Jvm.ClassFile.FieldType.int) [((15 : Nat), (91 : Nat), (94 : Nat), (211 : Nat)), ((15 : Nat), (91 : Nat), (97 : Nat), (192 : Nat)), ((15 : Nat), (91 : Nat), (100 : Nat), (118 : Nat))]) ∈ lw_all := lw_g (lw_at lw_m2 234 rfl) rfl
theorem q579 : (Jvm.Cond.instanceMethod ({ cls := "FunDesk", name := "attempt", desc := "()I" } : Jvm.MethodName)) ∈ lw_all := lw_g (lw_at lw_m2 233 rfl) rfl
theorem am_mok25 : am_mok 25 := ⟨q580, q107, rfl, (by decide), ⟨by decide, by decide⟩, (by decide +kernel), fun h => absurd h (by decide), fun _ => q579, fun h => absurd h (by decide), fun _ => (by decide)⟩
theorem q587 : (Jvm.Cond.code ({ cls := "FunDesk", name := "expr", desc := "()LFunDesk$Expr;" } : Jvm.MethodName) prog_1_method_26_code (2 : Nat) (Option.some (Jvm.ClassFile.FieldType.object "FunDesk$Expr"))) ∈ lw_all := lw_g (lw_at lw_m3 1 rfl) rfl
theorem q586 : (Jvm.Cond.instanceMethod ({ cls := "FunDesk", name := "expr", desc := "()LFunDesk$Expr;" } : Jvm.MethodName)) ∈ lw_all := lw_g (lw_at lw_m3 0 rfl) rfl
theorem am_mok26 : am_mok 26 := ⟨q587, q107, rfl, (by decide), ⟨by decide, by decide⟩, (by decide +kernel), fun h => absurd h (by decide), fun _ => q586, fun h => absurd h (by decide), fun _ => (by decide)⟩
theorem q590 : (Jvm.Cond.code ({ cls := "FunDesk", name := "ill", desc := "(Z)V" } : Jvm.MethodName) prog_1_method_18_code (1 : Nat) (Option.none : Option Jvm.ClassFile.FieldType)) ∈ lw_all := lw_g (lw_at lw_m3 4 rfl) rfl
theorem q589 : (Jvm.Cond.static ({ cls := "FunDesk", name := "ill", desc := "(Z)V" } : Jvm.MethodName)) ∈ lw_all := lw_g (lw_at lw_m3 3 rfl) rfl
theorem am_mok27 : am_mok 27 := ⟨q590, q107, rfl, (by decide), ⟨by decide, by decide⟩, (by decide +kernel), fun _ => q589, fun h => absurd rfl h, fun h => absurd h (by decide), fun _ => (by decide)⟩
theorem q658 : (Jvm.Cond.code ({ cls := "FunDesk", name := "peek", desc := "()C" } : Jvm.MethodName) prog_1_method_20_code (1 : Nat) (Option.some Jvm.ClassFile.FieldType.char)) ∈ lw_all := lw_g (lw_at lw_m3 72 rfl) rfl
theorem q657 : (Jvm.Cond.instanceMethod ({ cls := "FunDesk", name := "peek", desc := "()C" } : Jvm.MethodName)) ∈ lw_all := lw_g (lw_at lw_m3 71 rfl) rfl
theorem am_mok28 : am_mok 28 := ⟨q658, q107, rfl, (by decide), ⟨by decide, by decide⟩, (by decide +kernel), fun h => absurd h (by decide), fun _ => q657, fun h => absurd h (by decide), fun _ => (by decide)⟩
theorem q662 : (Jvm.Cond.code ({ cls := "FunDesk", name := "here", desc := "()C" } : Jvm.MethodName) prog_1_method_19_code (1 : Nat) (Option.some Jvm.ClassFile.FieldType.char)) ∈ lw_all := lw_g (lw_at lw_m3 76 rfl) rfl
theorem q661 : (Jvm.Cond.instanceMethod ({ cls := "FunDesk", name := "here", desc := "()C" } : Jvm.MethodName)) ∈ lw_all := lw_g (lw_at lw_m3 75 rfl) rfl
theorem am_mok29 : am_mok 29 := ⟨q662, q107, rfl, (by decide), ⟨by decide, by decide⟩, (by decide +kernel), fun h => absurd h (by decide), fun _ => q661, fun h => absurd h (by decide), fun _ => (by decide)⟩
theorem q666 : (Jvm.Cond.code ({ cls := "FunDesk", name := "inner", desc := "(C)LFunDesk$Expr;" } : Jvm.MethodName) prog_1_method_27_code (4 : Nat) (Option.some (Jvm.ClassFile.FieldType.object "FunDesk$Expr"))) ∈ lw_all := lw_g (lw_at lw_m3 80 rfl) rfl
theorem q665 : (Jvm.Cond.instanceMethod ({ cls := "FunDesk", name := "inner", desc := "(C)LFunDesk$Expr;" } : Jvm.MethodName)) ∈ lw_all := lw_g (lw_at lw_m3 79 rfl) rfl
theorem am_mok30 : am_mok 30 := ⟨q666, q107, rfl, (by decide), ⟨by decide, by decide⟩, (by decide +kernel), fun h => absurd h (by decide), fun _ => q665, fun h => absurd h (by decide), fun _ => (by decide)⟩
theorem q670 : (Jvm.Cond.code ({ cls := "FunDesk", name := "cons", desc := "()LFunDesk$Expr;" } : Jvm.MethodName) prog_1_method_29_code (2 : Nat) (Option.some (Jvm.ClassFile.FieldType.object "FunDesk$Expr"))) ∈ lw_all := lw_g (lw_at lw_m3 84 rfl) rfl
theorem q669 : (Jvm.Cond.instanceMethod ({ cls := "FunDesk", name := "cons", desc := "()LFunDesk$Expr;" } : Jvm.MethodName)) ∈ lw_all := lw_g (lw_at lw_m3 83 rfl) rfl
theorem am_mok31 : am_mok 31 := ⟨q670, q107, rfl, (by decide), ⟨by decide, by decide⟩, (by decide +kernel), fun h => absurd h (by decide), fun _ => q669, fun h => absurd h (by decide), fun _ => (by decide)⟩
theorem q674 : (Jvm.Cond.code ({ cls := "FunDesk", name := "compare", desc := "()LFunDesk$Expr;" } : Jvm.MethodName) prog_1_method_31_code (3 : Nat) (Option.some (Jvm.ClassFile.FieldType.object "FunDesk$Expr"))) ∈ lw_all := lw_g (lw_at lw_m3 88 rfl) rfl
theorem q673 : (Jvm.Cond.instanceMethod ({ cls := "FunDesk", name := "compare", desc := "()LFunDesk$Expr;" } : Jvm.MethodName)) ∈ lw_all := lw_g (lw_at lw_m3 87 rfl) rfl
theorem am_mok32 : am_mok 32 := ⟨q674, q107, rfl, (by decide), ⟨by decide, by decide⟩, (by decide +kernel), fun h => absurd h (by decide), fun _ => q673, fun h => absurd h (by decide), fun _ => (by decide)⟩
theorem q678 : (Jvm.Cond.code ({ cls := "FunDesk", name := "sum", desc := "()LFunDesk$Expr;" } : Jvm.MethodName) prog_1_method_32_code (3 : Nat) (Option.some (Jvm.ClassFile.FieldType.object "FunDesk$Expr"))) ∈ lw_all := lw_g (lw_at lw_m3 92 rfl) rfl
theorem q677 : (Jvm.Cond.instanceMethod ({ cls := "FunDesk", name := "sum", desc := "()LFunDesk$Expr;" } : Jvm.MethodName)) ∈ lw_all := lw_g (lw_at lw_m3 91 rfl) rfl
theorem am_mok33 : am_mok 33 := ⟨q678, q107, rfl, (by decide), ⟨by decide, by decide⟩, (by decide +kernel), fun h => absurd h (by decide), fun _ => q677, fun h => absurd h (by decide), fun _ => (by decide)⟩
theorem q682 : (Jvm.Cond.code ({ cls := "FunDesk", name := "product", desc := "()LFunDesk$Expr;" } : Jvm.MethodName) prog_1_method_33_code (3 : Nat) (Option.some (Jvm.ClassFile.FieldType.object "FunDesk$Expr"))) ∈ lw_all := lw_g (lw_at lw_m3 96 rfl) rfl
theorem q681 : (Jvm.Cond.instanceMethod ({ cls := "FunDesk", name := "product", desc := "()LFunDesk$Expr;" } : Jvm.MethodName)) ∈ lw_all := lw_g (lw_at lw_m3 95 rfl) rfl
theorem am_mok34 : am_mok 34 := ⟨q682, q107, rfl, (by decide), ⟨by decide, by decide⟩, (by decide +kernel), fun h => absurd h (by decide), fun _ => q681, fun h => absurd h (by decide), fun _ => (by decide)⟩
theorem q686 : (Jvm.Cond.code ({ cls := "FunDesk", name := "apply", desc := "()LFunDesk$Expr;" } : Jvm.MethodName) prog_1_method_35_code (2 : Nat) (Option.some (Jvm.ClassFile.FieldType.object "FunDesk$Expr"))) ∈ lw_all := lw_g (lw_at lw_m3 100 rfl) rfl
theorem q685 : (Jvm.Cond.instanceMethod ({ cls := "FunDesk", name := "apply", desc := "()LFunDesk$Expr;" } : Jvm.MethodName)) ∈ lw_all := lw_g (lw_at lw_m3 99 rfl) rfl
theorem am_mok35 : am_mok 35 := ⟨q686, q107, rfl, (by decide), ⟨by decide, by decide⟩, (by decide +kernel), fun h => absurd h (by decide), fun _ => q685, fun h => absurd h (by decide), fun _ => (by decide)⟩
theorem q690 : (Jvm.Cond.code ({ cls := "FunDesk", name := "atom", desc := "()LFunDesk$Expr;" } : Jvm.MethodName) prog_1_method_36_code (3 : Nat) (Option.some (Jvm.ClassFile.FieldType.object "FunDesk$Expr"))) ∈ lw_all := lw_g (lw_at lw_m3 104 rfl) rfl
theorem q689 : (Jvm.Cond.instanceMethod ({ cls := "FunDesk", name := "atom", desc := "()LFunDesk$Expr;" } : Jvm.MethodName)) ∈ lw_all := lw_g (lw_at lw_m3 103 rfl) rfl
theorem am_mok36 : am_mok 36 := ⟨q690, q107, rfl, (by decide), ⟨by decide, by decide⟩, (by decide +kernel), fun h => absurd h (by decide), fun _ => q689, fun h => absurd h (by decide), fun _ => (by decide)⟩
theorem q694 : (Jvm.Cond.code ({ cls := "FunDesk", name := "begins", desc := "(C)Z" } : Jvm.MethodName) prog_1_method_34_code (2 : Nat) (Option.some Jvm.ClassFile.FieldType.boolean)) ∈ lw_all := lw_g (lw_at lw_m3 108 rfl) rfl
theorem q693 : (Jvm.Cond.instanceMethod ({ cls := "FunDesk", name := "begins", desc := "(C)Z" } : Jvm.MethodName)) ∈ lw_all := lw_g (lw_at lw_m3 107 rfl) rfl
theorem am_mok37 : am_mok 37 := ⟨q694, q107, rfl, (by decide), ⟨by decide, by decide⟩, (by decide +kernel), fun h => absurd h (by decide), fun _ => q693, fun h => absurd h (by decide), fun _ => (by decide)⟩
theorem q697 : (Jvm.Cond.code ({ cls := "FunDesk", name := "digit", desc := "(C)Z" } : Jvm.MethodName) prog_1_method_22_code (1 : Nat) (Option.some Jvm.ClassFile.FieldType.boolean)) ∈ lw_all := lw_g (lw_at lw_m3 111 rfl) rfl
theorem q696 : (Jvm.Cond.static ({ cls := "FunDesk", name := "digit", desc := "(C)Z" } : Jvm.MethodName)) ∈ lw_all := lw_g (lw_at lw_m3 110 rfl) rfl
theorem am_mok38 : am_mok 38 := ⟨q697, q107, rfl, (by decide), ⟨by decide, by decide⟩, (by decide +kernel), fun _ => q696, fun h => absurd rfl h, fun h => absurd h (by decide), fun _ => (by decide)⟩
theorem q700 : (Jvm.Cond.code ({ cls := "FunDesk", name := "letter", desc := "(C)Z" } : Jvm.MethodName) prog_1_method_23_code (1 : Nat) (Option.some Jvm.ClassFile.FieldType.boolean)) ∈ lw_all := lw_g (lw_at lw_m3 114 rfl) rfl
theorem q699 : (Jvm.Cond.static ({ cls := "FunDesk", name := "letter", desc := "(C)Z" } : Jvm.MethodName)) ∈ lw_all := lw_g (lw_at lw_m3 113 rfl) rfl
theorem am_mok39 : am_mok 39 := ⟨q700, q107, rfl, (by decide), ⟨by decide, by decide⟩, (by decide +kernel), fun _ => q699, fun h => absurd rfl h, fun h => absurd h (by decide), fun _ => (by decide)⟩
theorem q704 : (Jvm.Cond.code ({ cls := "FunDesk", name := "figures", desc := "()LFunDesk$Expr;" } : Jvm.MethodName) prog_1_method_39_code (5 : Nat) (Option.some (Jvm.ClassFile.FieldType.object "FunDesk$Expr"))) ∈ lw_all := lw_g (lw_at lw_m3 118 rfl) rfl
theorem q703 : (Jvm.Cond.instanceMethod ({ cls := "FunDesk", name := "figures", desc := "()LFunDesk$Expr;" } : Jvm.MethodName)) ∈ lw_all := lw_g (lw_at lw_m3 117 rfl) rfl
theorem am_mok40 : am_mok 40 := ⟨q704, q107, rfl, (by decide), ⟨by decide, by decide⟩, (by decide +kernel), fun h => absurd h (by decide), fun _ => q703, fun h => absurd h (by decide), fun _ => (by decide)⟩
theorem q708 : (Jvm.Cond.code ({ cls := "FunDesk", name := "digits", desc := "(I)I" } : Jvm.MethodName) prog_1_method_38_code (4 : Nat) (Option.some Jvm.ClassFile.FieldType.int)) ∈ lw_all := lw_g (lw_at lw_m3 122 rfl) rfl
theorem q707 : (Jvm.Cond.instanceMethod ({ cls := "FunDesk", name := "digits", desc := "(I)I" } : Jvm.MethodName)) ∈ lw_all := lw_g (lw_at lw_m3 121 rfl) rfl
theorem am_mok41 : am_mok 41 := ⟨q708, q107, rfl, (by decide), ⟨by decide, by decide⟩, (by decide +kernel), fun h => absurd h (by decide), fun _ => q707, fun h => absurd h (by decide), fun _ => (by decide)⟩
theorem q740 : (Jvm.Cond.code ({ cls := "FunDesk", name := "operand", desc := "()LFunDesk$Expr;" } : Jvm.MethodName) prog_1_method_37_code (1 : Nat) (Option.some (Jvm.ClassFile.FieldType.object "FunDesk$Expr"))) ∈ lw_all := lw_g (lw_at lw_m3 154 rfl) rfl
theorem q739 : (Jvm.Cond.instanceMethod ({ cls := "FunDesk", name := "operand", desc := "()LFunDesk$Expr;" } : Jvm.MethodName)) ∈ lw_all := lw_g (lw_at lw_m3 153 rfl) rfl
theorem am_mok42 : am_mok 42 := ⟨q740, q107, rfl, (by decide), ⟨by decide, by decide⟩, (by decide +kernel), fun h => absurd h (by decide), fun _ => q739, fun h => absurd h (by decide), fun _ => (by decide)⟩
theorem q761 : (Jvm.Cond.code ({ cls := "FunDesk", name := "eat", desc := "(C)Z" } : Jvm.MethodName) prog_1_method_21_code (2 : Nat) (Option.some Jvm.ClassFile.FieldType.boolean)) ∈ lw_all := lw_g (lw_at lw_m3 175 rfl) rfl
theorem q760 : (Jvm.Cond.instanceMethod ({ cls := "FunDesk", name := "eat", desc := "(C)Z" } : Jvm.MethodName)) ∈ lw_all := lw_g (lw_at lw_m3 174 rfl) rfl
theorem am_mok43 : am_mok 43 := ⟨q761, q107, rfl, (by decide), ⟨by decide, by decide⟩, (by decide +kernel), fun h => absurd h (by decide), fun _ => q760, fun h => absurd h (by decide), fun _ => (by decide)⟩
theorem q788 : (Jvm.Cond.code ({ cls := "FunDesk", name := "sign", desc := "(I)I" } : Jvm.MethodName) prog_1_method_25_code (4 : Nat) (Option.some Jvm.ClassFile.FieldType.int)) ∈ lw_all := lw_g (lw_at lw_m3 202 rfl) rfl
theorem q787 : (Jvm.Cond.instanceMethod ({ cls := "FunDesk", name := "sign", desc := "(I)I" } : Jvm.MethodName)) ∈ lw_all := lw_g (lw_at lw_m3 201 rfl) rfl
theorem am_mok44 : am_mok 44 := ⟨q788, q107, rfl, (by decide), ⟨by decide, by decide⟩, (by decide +kernel), fun h => absurd h (by decide), fun _ => q787, fun h => absurd h (by decide), fun _ => (by decide)⟩
theorem q792 : (Jvm.Cond.code ({ cls := "FunDesk", name := "tail", desc := "()LFunDesk$Expr;" } : Jvm.MethodName) prog_1_method_30_code (1 : Nat) (Option.some (Jvm.ClassFile.FieldType.object "FunDesk$Expr"))) ∈ lw_all := lw_g (lw_at lw_m3 206 rfl) rfl
theorem q791 : (Jvm.Cond.instanceMethod ({ cls := "FunDesk", name := "tail", desc := "()LFunDesk$Expr;" } : Jvm.MethodName)) ∈ lw_all := lw_g (lw_at lw_m3 205 rfl) rfl
theorem am_mok45 : am_mok 45 := ⟨q792, q107, rfl, (by decide), ⟨by decide, by decide⟩, (by decide +kernel), fun h => absurd h (by decide), fun _ => q791, fun h => absurd h (by decide), fun _ => (by decide)⟩
theorem q812 : (Jvm.Cond.code ({ cls := "FunDesk", name := "cases", desc := "()LFunDesk$Expr;" } : Jvm.MethodName) prog_1_method_28_code (3 : Nat) (Option.some (Jvm.ClassFile.FieldType.object "FunDesk$Expr"))) ∈ lw_all := lw_g (lw_at lw_m3 226 rfl) rfl
theorem q811 : (Jvm.Cond.instanceMethod ({ cls := "FunDesk", name := "cases", desc := "()LFunDesk$Expr;" } : Jvm.MethodName)) ∈ lw_all := lw_g (lw_at lw_m3 225 rfl) rfl
theorem am_mok46 : am_mok 46 := ⟨q812, q107, rfl, (by decide), ⟨by decide, by decide⟩, (by decide +kernel), fun h => absurd h (by decide), fun _ => q811, fun h => absurd h (by decide), fun _ => (by decide)⟩
theorem q841 : (Jvm.Cond.code ({ cls := "FunDesk", name := "pattern", desc := "()LFunDesk$Pattern;" } : Jvm.MethodName) prog_1_method_40_code (2 : Nat) (Option.some (Jvm.ClassFile.FieldType.object "FunDesk$Pattern"))) ∈ lw_all := lw_g (lw_at lw_m4 15 rfl) rfl
theorem q840 : (Jvm.Cond.instanceMethod ({ cls := "FunDesk", name := "pattern", desc := "()LFunDesk$Pattern;" } : Jvm.MethodName)) ∈ lw_all := lw_g (lw_at lw_m4 14 rfl) rfl
theorem am_mok47 : am_mok 47 := ⟨q841, q107, rfl, (by decide), ⟨by decide, by decide⟩, (by decide +kernel), fun h => absurd h (by decide), fun _ => q840, fun h => absurd h (by decide), fun _ => (by decide)⟩
theorem q845 : (Jvm.Cond.code ({ cls := "FunDesk", name := "part", desc := "()LFunDesk$Pattern;" } : Jvm.MethodName) prog_1_method_42_code (3 : Nat) (Option.some (Jvm.ClassFile.FieldType.object "FunDesk$Pattern"))) ∈ lw_all := lw_g (lw_at lw_m4 19 rfl) rfl
theorem q844 : (Jvm.Cond.instanceMethod ({ cls := "FunDesk", name := "part", desc := "()LFunDesk$Pattern;" } : Jvm.MethodName)) ∈ lw_all := lw_g (lw_at lw_m4 18 rfl) rfl
theorem am_mok48 : am_mok 48 := ⟨q845, q107, rfl, (by decide), ⟨by decide, by decide⟩, (by decide +kernel), fun h => absurd h (by decide), fun _ => q844, fun h => absurd h (by decide), fun _ => (by decide)⟩
theorem q874 : (Jvm.Cond.code ({ cls := "FunDesk", name := "more", desc := "()LFunDesk$Pattern;" } : Jvm.MethodName) prog_1_method_41_code (1 : Nat) (Option.some (Jvm.ClassFile.FieldType.object "FunDesk$Pattern"))) ∈ lw_all := lw_g (lw_at lw_m4 48 rfl) rfl
theorem q873 : (Jvm.Cond.instanceMethod ({ cls := "FunDesk", name := "more", desc := "()LFunDesk$Pattern;" } : Jvm.MethodName)) ∈ lw_all := lw_g (lw_at lw_m4 47 rfl) rfl
theorem am_mok49 : am_mok 49 := ⟨q874, q107, rfl, (by decide), ⟨by decide, by decide⟩, (by decide +kernel), fun h => absurd h (by decide), fun _ => q873, fun h => absurd h (by decide), fun _ => (by decide)⟩
theorem q889 : (Jvm.Cond.code ({ cls := "FunDesk", name := "name", desc := "()C" } : Jvm.MethodName) prog_1_method_24_code (2 : Nat) (Option.some Jvm.ClassFile.FieldType.char)) ∈ lw_all := lw_g (lw_at lw_m4 63 rfl) rfl
theorem q888 : (Jvm.Cond.instanceMethod ({ cls := "FunDesk", name := "name", desc := "()C" } : Jvm.MethodName)) ∈ lw_all := lw_g (lw_at lw_m4 62 rfl) rfl
theorem am_mok50 : am_mok 50 := ⟨q889, q107, rfl, (by decide), ⟨by decide, by decide⟩, (by decide +kernel), fun h => absurd h (by decide), fun _ => q888, fun h => absurd h (by decide), fun _ => (by decide)⟩
theorem q992 : (Jvm.Cond.code ({ cls := "FunDesk", name := "find", desc := "(CLFunDesk$Scope;)LFunDesk$Scope;" } : Jvm.MethodName) prog_1_method_13_code (3 : Nat) (Option.some (Jvm.ClassFile.FieldType.object "FunDesk$Scope"))) ∈ lw_all := lw_g (lw_at lw_m4 166 rfl) rfl
theorem q991 : (Jvm.Cond.static ({ cls := "FunDesk", name := "find", desc := "(CLFunDesk$Scope;)LFunDesk$Scope;" } : Jvm.MethodName)) ∈ lw_all := lw_g (lw_at lw_m4 165 rfl) rfl
theorem am_mok51 : am_mok 51 := ⟨q992, q107, rfl, (by decide), ⟨by decide, by decide⟩, (by decide +kernel), fun _ => q991, fun h => absurd rfl h, fun h => absurd h (by decide), fun _ => (by decide)⟩
theorem q1054 : (Jvm.Cond.code ({ cls := "FunDesk", name := "exprType", desc := "(LFunDesk$Expr;LFunDesk;LFunDesk$Scope;)LFunDesk$Type;" } : Jvm.MethodName) prog_1_method_15_code (3 : Nat) (Option.some (Jvm.ClassFile.FieldType.object "FunDesk$Type"))) ∈ lw_all := lw_g (lw_at lw_m4 228 rfl) rfl
theorem q1053 : (Jvm.Cond.static ({ cls := "FunDesk", name := "exprType", desc := "(LFunDesk$Expr;LFunDesk;LFunDesk$Scope;)LFunDesk$Type;" } : Jvm.MethodName)) ∈ lw_all := lw_g (lw_at lw_m4 227 rfl) rfl
theorem am_mok52 : am_mok 52 := ⟨q1054, q107, rfl, (by decide), ⟨by decide, by decide⟩, (by decide +kernel), fun _ => q1053, fun h => absurd rfl h, fun h => absurd h (by decide), fun _ => (by decide)⟩
theorem q1068 : (Jvm.Cond.code ({ cls := "FunDesk", name := "fresh", desc := "()LFunDesk$Type;" } : Jvm.MethodName) prog_1_method_2_code (2 : Nat) (Option.some (Jvm.ClassFile.FieldType.object "FunDesk$Type"))) ∈ lw_all := lw_g (lw_at lw_m5 2 rfl) rfl
theorem q1067 : (Jvm.Cond.instanceMethod ({ cls := "FunDesk", name := "fresh", desc := "()LFunDesk$Type;" } : Jvm.MethodName)) ∈ lw_all := lw_g (lw_at lw_m5 1 rfl) rfl
theorem am_mok53 : am_mok 53 := ⟨q1068, q107, rfl, (by decide), ⟨by decide, by decide⟩, (by decide +kernel), fun h => absurd h (by decide), fun _ => q1067, fun h => absurd h (by decide), fun _ => (by decide)⟩
theorem q1076 : (Jvm.Cond.code ({ cls := "FunDesk", name := "unify", desc := "(LFunDesk$Type;LFunDesk$Type;)V" } : Jvm.MethodName) prog_1_method_6_code (4 : Nat) (Option.none : Option Jvm.ClassFile.FieldType)) ∈ lw_all := lw_g (lw_at lw_m5 10 rfl) rfl
theorem q1075 : (Jvm.Cond.static ({ cls := "FunDesk", name := "unify", desc := "(LFunDesk$Type;LFunDesk$Type;)V" } : Jvm.MethodName)) ∈ lw_all := lw_g (lw_at lw_m5 9 rfl) rfl
theorem am_mok54 : am_mok 54 := ⟨q1076, q107, rfl, (by decide), ⟨by decide, by decide⟩, (by decide +kernel), fun _ => q1075, fun h => absurd rfl h, fun h => absurd h (by decide), fun _ => (by decide)⟩
theorem q1084 : (Jvm.Cond.code ({ cls := "FunDesk", name := "fitting", desc := "(LFunDesk$Type;)V" } : Jvm.MethodName) prog_1_method_4_code (1 : Nat) (Option.none : Option Jvm.ClassFile.FieldType)) ∈ lw_all := lw_g (lw_at lw_m5 18 rfl) rfl
theorem q1083 : (Jvm.Cond.static ({ cls := "FunDesk", name := "fitting", desc := "(LFunDesk$Type;)V" } : Jvm.MethodName)) ∈ lw_all := lw_g (lw_at lw_m5 17 rfl) rfl
theorem am_mok55 : am_mok 55 := ⟨q1084, q107, rfl, (by decide), ⟨by decide, by decide⟩, (by decide +kernel), fun _ => q1083, fun h => absurd rfl h, fun h => absurd h (by decide), fun _ => (by decide)⟩
theorem q1087 : (Jvm.Cond.code ({ cls := "FunDesk", name := "room", desc := "(LFunDesk$Type;I)I" } : Jvm.MethodName) prog_1_method_3_code (4 : Nat) (Option.some Jvm.ClassFile.FieldType.int)) ∈ lw_all := lw_g (lw_at lw_m5 21 rfl) rfl
theorem q1086 : (Jvm.Cond.static ({ cls := "FunDesk", name := "room", desc := "(LFunDesk$Type;I)I" } : Jvm.MethodName)) ∈ lw_all := lw_g (lw_at lw_m5 20 rfl) rfl
theorem am_mok56 : am_mok 56 := ⟨q1087, q107, rfl, (by decide), ⟨by decide, by decide⟩, (by decide +kernel), fun _ => q1086, fun h => absurd rfl h, fun h => absurd h (by decide), fun _ => (by decide)⟩
theorem q1105 : (Jvm.Cond.code ({ cls := "FunDesk", name := "occurs", desc := "(LFunDesk$Type;LFunDesk$Type;)Z" } : Jvm.MethodName) prog_1_method_5_code (3 : Nat) (Option.some Jvm.ClassFile.FieldType.boolean)) ∈ lw_all := lw_g (lw_at lw_m5 39 rfl) rfl
theorem q1104 : (Jvm.Cond.static ({ cls := "FunDesk", name := "occurs", desc := "(LFunDesk$Type;LFunDesk$Type;)Z" } : Jvm.MethodName)) ∈ lw_all := lw_g (lw_at lw_m5 38 rfl) rfl
theorem am_mok57 : am_mok 57 := ⟨q1105, q107, rfl, (by decide), ⟨by decide, by decide⟩, (by decide +kernel), fun _ => q1104, fun h => absurd rfl h, fun h => absurd h (by decide), fun _ => (by decide)⟩
theorem q1118 : (Jvm.Cond.code ({ cls := "FunDesk", name := "patternType", desc := "(LFunDesk$Pattern;LFunDesk;)LFunDesk$Type;" } : Jvm.MethodName) prog_1_method_17_code (2 : Nat) (Option.some (Jvm.ClassFile.FieldType.object "FunDesk$Type"))) ∈ lw_all := lw_g (lw_at lw_m5 52 rfl) rfl
theorem q1117 : (Jvm.Cond.static ({ cls := "FunDesk", name := "patternType", desc := "(LFunDesk$Pattern;LFunDesk;)LFunDesk$Type;" } : Jvm.MethodName)) ∈ lw_all := lw_g (lw_at lw_m5 51 rfl) rfl
theorem am_mok58 : am_mok 58 := ⟨q1118, q107, rfl, (by decide), ⟨by decide, by decide⟩, (by decide +kernel), fun _ => q1117, fun h => absurd rfl h, fun h => absurd h (by decide), fun _ => (by decide)⟩
theorem q1152 : (Jvm.Cond.code ({ cls := "FunDesk", name := "keep", desc := "(LFunDesk$Type;)LFunDesk$Type;" } : Jvm.MethodName) prog_1_method_16_code (2 : Nat) (Option.some (Jvm.ClassFile.FieldType.object "FunDesk$Type"))) ∈ lw_all := lw_g (lw_at lw_m5 86 rfl) rfl
theorem q1151 : (Jvm.Cond.instanceMethod ({ cls := "FunDesk", name := "keep", desc := "(LFunDesk$Type;)LFunDesk$Type;" } : Jvm.MethodName)) ∈ lw_all := lw_g (lw_at lw_m5 85 rfl) rfl
theorem am_mok59 : am_mok 59 := ⟨q1152, q107, rfl, (by decide), ⟨by decide, by decide⟩, (by decide +kernel), fun h => absurd h (by decide), fun _ => q1151, fun h => absurd h (by decide), fun _ => (by decide)⟩
theorem q1182 : (Jvm.Cond.code ({ cls := "FunDesk", name := "generalize", desc := "(LFunDesk$Type;I)V" } : Jvm.MethodName) prog_1_method_7_code (3 : Nat) (Option.none : Option Jvm.ClassFile.FieldType)) ∈ lw_all := lw_g (lw_at lw_m5 116 rfl) rfl
theorem q1181 : (Jvm.Cond.static ({ cls := "FunDesk", name := "generalize", desc := "(LFunDesk$Type;I)V" } : Jvm.MethodName)) ∈ lw_all := lw_g (lw_at lw_m5 115 rfl) rfl
theorem am_mok60 : am_mok 60 := ⟨q1182, q107, rfl, (by decide), ⟨by decide, by decide⟩, (by decide +kernel), fun _ => q1181, fun h => absurd rfl h, fun h => absurd h (by decide), fun _ => (by decide)⟩
theorem q1196 : (Jvm.Cond.code ({ cls := "FunDesk", name := "instance", desc := "(LFunDesk;LFunDesk$Type;)LFunDesk$Type;" } : Jvm.MethodName) prog_1_method_9_code (3 : Nat) (Option.some (Jvm.ClassFile.FieldType.object "FunDesk$Type"))) ∈ lw_all := lw_g (lw_at lw_m5 130 rfl) rfl
theorem q1195 : (Jvm.Cond.static ({ cls := "FunDesk", name := "instance", desc := "(LFunDesk;LFunDesk$Type;)LFunDesk$Type;" } : Jvm.MethodName)) ∈ lw_all := lw_g (lw_at lw_m5 129 rfl) rfl
theorem am_mok61 : am_mok 61 := ⟨q1196, q107, rfl, (by decide), ⟨by decide, by decide⟩, (by decide +kernel), fun _ => q1195, fun h => absurd rfl h, fun h => absurd h (by decide), fun _ => (by decide)⟩
theorem q1199 : (Jvm.Cond.code ({ cls := "FunDesk", name := "generic", desc := "(LFunDesk$Type;)Z" } : Jvm.MethodName) prog_1_method_8_code (2 : Nat) (Option.some Jvm.ClassFile.FieldType.boolean)) ∈ lw_all := lw_g (lw_at lw_m5 133 rfl) rfl
theorem q1198 : (Jvm.Cond.static ({ cls := "FunDesk", name := "generic", desc := "(LFunDesk$Type;)Z" } : Jvm.MethodName)) ∈ lw_all := lw_g (lw_at lw_m5 132 rfl) rfl
theorem am_mok62 : am_mok 62 := ⟨q1199, q107, rfl, (by decide), ⟨by decide, by decide⟩, (by decide +kernel), fun _ => q1198, fun h => absurd rfl h, fun h => absurd h (by decide), fun _ => (by decide)⟩
theorem q1254 : (Jvm.Cond.code ({ cls := "FunDesk", name := "emit", desc := "(LFunDesk$Op;I)I" } : Jvm.MethodName) prog_1_method_43_code (3 : Nat) (Option.some Jvm.ClassFile.FieldType.int)) ∈ lw_all := lw_g (lw_at lw_m5 188 rfl) rfl
theorem q1253 : (Jvm.Cond.instanceMethod ({ cls := "FunDesk", name := "emit", desc := "(LFunDesk$Op;I)I" } : Jvm.MethodName)) ∈ lw_all := lw_g (lw_at lw_m5 187 rfl) rfl
theorem am_mok63 : am_mok 63 := ⟨q1254, q107, rfl, (by decide), ⟨by decide, by decide⟩, (by decide +kernel), fun h => absurd h (by decide), fun _ => q1253, fun h => absurd h (by decide), fun _ => (by decide)⟩
theorem q1280 : (Jvm.Cond.code ({ cls := "FunDesk", name := "distance", desc := "(CLFunDesk$Scope;)I" } : Jvm.MethodName) prog_1_method_14_code (4 : Nat) (Option.some Jvm.ClassFile.FieldType.int)) ∈ lw_all := lw_g (lw_at lw_m5 214 rfl) rfl
theorem q1279 : (Jvm.Cond.static ({ cls := "FunDesk", name := "distance", desc := "(CLFunDesk$Scope;)I" } : Jvm.MethodName)) ∈ lw_all := lw_g (lw_at lw_m5 213 rfl) rfl
theorem am_mok64 : am_mok 64 := ⟨q1280, q107, rfl, (by decide), ⟨by decide, by decide⟩, (by decide +kernel), fun _ => q1279, fun h => absurd rfl h, fun h => absurd h (by decide), fun _ => (by decide)⟩
theorem q1321 : (Jvm.Cond.code ({ cls := "FunDesk", name := "printType", desc := "(LFunDesk;LFunDesk$Type;)V" } : Jvm.MethodName) prog_1_method_12_code (4 : Nat) (Option.none : Option Jvm.ClassFile.FieldType)) ∈ lw_all := lw_g (lw_at lw_m6 15 rfl) rfl
theorem q1320 : (Jvm.Cond.static ({ cls := "FunDesk", name := "printType", desc := "(LFunDesk;LFunDesk$Type;)V" } : Jvm.MethodName)) ∈ lw_all := lw_g (lw_at lw_m6 14 rfl) rfl
theorem am_mok65 : am_mok 65 := ⟨q1321, q107, rfl, (by decide), ⟨by decide, by decide⟩, (by decide +kernel), fun _ => q1320, fun h => absurd rfl h, fun h => absurd h (by decide), fun _ => (by decide)⟩
theorem q1328 : (Jvm.Cond.code ({ cls := "FunDesk", name := "print", desc := "(C)V" } : Jvm.MethodName) prog_1_method_10_code (2 : Nat) (Option.none : Option Jvm.ClassFile.FieldType)) ∈ lw_all := lw_g (lw_at lw_m6 22 rfl) rfl
theorem q1327 : (Jvm.Cond.instanceMethod ({ cls := "FunDesk", name := "print", desc := "(C)V" } : Jvm.MethodName)) ∈ lw_all := lw_g (lw_at lw_m6 21 rfl) rfl
theorem am_mok66 : am_mok 66 := ⟨q1328, q107, rfl, (by decide), ⟨by decide, by decide⟩, (by decide +kernel), fun h => absurd h (by decide), fun _ => q1327, fun h => absurd h (by decide), fun _ => (by decide)⟩
theorem q1332 : (Jvm.Cond.code ({ cls := "FunDesk", name := "printVariable", desc := "(LFunDesk$Type;)V" } : Jvm.MethodName) prog_1_method_11_code (3 : Nat) (Option.none : Option Jvm.ClassFile.FieldType)) ∈ lw_all := lw_g (lw_at lw_m6 26 rfl) rfl
theorem q1331 : (Jvm.Cond.instanceMethod ({ cls := "FunDesk", name := "printVariable", desc := "(LFunDesk$Type;)V" } : Jvm.MethodName)) ∈ lw_all := lw_g (lw_at lw_m6 25 rfl) rfl
theorem am_mok67 : am_mok 67 := ⟨q1332, q107, rfl, (by decide), ⟨by decide, by decide⟩, (by decide +kernel), fun h => absurd h (by decide), fun _ => q1331, fun h => absurd h (by decide), fun _ => (by decide)⟩
theorem q1341 : (Jvm.Cond.code ({ cls := "FunDesk", name := "value", desc := "(I)I" } : Jvm.MethodName) prog_1_method_66_code (2 : Nat) (Option.some Jvm.ClassFile.FieldType.int)) ∈ lw_all := lw_g (lw_at lw_m6 35 rfl) rfl
theorem q1339 : (Jvm.Cond.instanceMethod ({ cls := "FunDesk", name := "value", desc := "(I)I" } : Jvm.MethodName)) ∈ lw_all := lw_g (lw_at lw_m6 33 rfl) rfl
theorem am_mok68 : am_mok 68 := ⟨q1341, q107, rfl, (by decide), ⟨by decide, by decide⟩, (by decide +kernel), fun h => absurd h (by decide), fun _ => q1339, fun h => absurd h (by decide), fun _ => (by decide)⟩
theorem q1345 : (Jvm.Cond.code ({ cls := "FunDesk", name := "known", desc := "()V" } : Jvm.MethodName) prog_1_method_64_code (1 : Nat) (Option.none : Option Jvm.ClassFile.FieldType)) ∈ lw_all := lw_g (lw_at lw_m6 39 rfl) rfl
theorem q1344 : (Jvm.Cond.instanceMethod ({ cls := "FunDesk", name := "known", desc := "()V" } : Jvm.MethodName)) ∈ lw_all := lw_g (lw_at lw_m6 38 rfl) rfl
theorem am_mok69 : am_mok 69 := ⟨q1345, q107, rfl, (by decide), ⟨by decide, by decide⟩, (by decide +kernel), fun h => absurd h (by decide), fun _ => q1344, fun h => absurd h (by decide), fun _ => (by decide)⟩
theorem q1378 : (Jvm.Cond.code ({ cls := "FunDesk", name := "items", desc := "(LFunDesk$Value;)I" } : Jvm.MethodName) prog_1_method_65_code (3 : Nat) (Option.some Jvm.ClassFile.FieldType.int)) ∈ lw_all := lw_g (lw_at lw_m6 72 rfl) rfl
theorem q1377 : (Jvm.Cond.static ({ cls := "FunDesk", name := "items", desc := "(LFunDesk$Value;)I" } : Jvm.MethodName)) ∈ lw_all := lw_g (lw_at lw_m6 71 rfl) rfl
theorem am_mok70 : am_mok 70 := ⟨q1378, q107, rfl, (by decide), ⟨by decide, by decide⟩, (by decide +kernel), fun _ => q1377, fun h => absurd rfl h, fun h => absurd h (by decide), fun _ => (by decide)⟩
theorem q1386 : (Jvm.Cond.code ({ cls := "FunDesk", name := "real", desc := "()D" } : Jvm.MethodName) prog_1_method_67_code (1 : Nat) (Option.some Jvm.ClassFile.FieldType.double)) ∈ lw_all := lw_g (lw_at lw_m6 80 rfl) rfl
theorem q1384 : (Jvm.Cond.instanceMethod ({ cls := "FunDesk", name := "real", desc := "()D" } : Jvm.MethodName)) ∈ lw_all := lw_g (lw_at lw_m6 78 rfl) rfl
theorem am_mok71 : am_mok 71 := ⟨q1386, q107, rfl, (by decide), ⟨by decide, by decide⟩, (by decide +kernel), fun h => absurd h (by decide), fun _ => q1384, fun h => absurd h (by decide), fun _ => (by decide)⟩
theorem q1393 : (Jvm.Cond.code ({ cls := "FunDesk", name := "item", desc := "(I)V" } : Jvm.MethodName) prog_1_method_68_code (4 : Nat) (Option.none : Option Jvm.ClassFile.FieldType)) ∈ lw_all := lw_g (lw_at lw_m6 87 rfl) rfl
theorem q1391 : (Jvm.Cond.instanceMethod ({ cls := "FunDesk", name := "item", desc := "(I)V" } : Jvm.MethodName)) ∈ lw_all := lw_g (lw_at lw_m6 85 rfl) rfl
theorem am_mok72 : am_mok 72 := ⟨q1393, q107, rfl, (by decide), ⟨by decide, by decide⟩, (by decide +kernel), fun h => absurd h (by decide), fun _ => q1391, fun h => absurd h (by decide), fun _ => (by decide)⟩
theorem q1401 : (Jvm.Cond.code ({ cls := "FunDesk", name := "top", desc := "()V" } : Jvm.MethodName) prog_1_method_69_code (1 : Nat) (Option.none : Option Jvm.ClassFile.FieldType)) ∈ lw_all := lw_g (lw_at lw_m6 95 rfl) rfl
theorem q1399 : (Jvm.Cond.instanceMethod ({ cls := "FunDesk", name := "top", desc := "()V" } : Jvm.MethodName)) ∈ lw_all := lw_g (lw_at lw_m6 93 rfl) rfl
theorem am_mok73 : am_mok 73 := ⟨q1401, q107, rfl, (by decide), ⟨by decide, by decide⟩, (by decide +kernel), fun h => absurd h (by decide), fun _ => q1399, fun h => absurd h (by decide), fun _ => (by decide)⟩
theorem q156 : (Jvm.Cond.code ({ cls := "FunDesk$Type", name := "<init>", desc := "(LFunDesk$Sort;LFunDesk$Type;LFunDesk$Type;)V" } : Jvm.MethodName) prog_24_method_1_code (4 : Nat) (Option.none : Option Jvm.ClassFile.FieldType)) ∈ lw_all := lw_g (lw_at lw_m1 50 rfl) rfl
theorem q155 : (Jvm.Cond.instanceMethod ({ cls := "FunDesk$Type", name := "<init>", desc := "(LFunDesk$Sort;LFunDesk$Type;LFunDesk$Type;)V" } : Jvm.MethodName)) ∈ lw_all := lw_g (lw_at lw_m1 49 rfl) rfl
theorem am_mok74 : am_mok 74 := ⟨q156, q108, rfl, (by decide), ⟨by decide, by decide⟩, (by decide +kernel), fun h => absurd h (by decide), fun _ => q155, fun _ => ⟨rfl, rfl, rfl⟩, fun h => absurd rfl h⟩
theorem q1080 : (Jvm.Cond.code ({ cls := "FunDesk$Type", name := "real", desc := "()LFunDesk$Type;" } : Jvm.MethodName) prog_24_method_2_code (2 : Nat) (Option.some (Jvm.ClassFile.FieldType.object "FunDesk$Type"))) ∈ lw_all := lw_g (lw_at lw_m5 14 rfl) rfl
theorem q1078 : (Jvm.Cond.instanceMethod ({ cls := "FunDesk$Type", name := "real", desc := "()LFunDesk$Type;" } : Jvm.MethodName)) ∈ lw_all := lw_g (lw_at lw_m5 12 rfl) rfl
theorem am_mok75 : am_mok 75 := ⟨q1080, q108, rfl, (by decide), ⟨by decide, by decide⟩, (by decide +kernel), fun h => absurd h (by decide), fun _ => q1078, fun h => absurd h (by decide), fun _ => (by decide)⟩
theorem q193 : (Jvm.Cond.code ({ cls := "FunDesk$Nil", name := "<init>", desc := "()V" } : Jvm.MethodName) prog_16_method_1_code (1 : Nat) (Option.none : Option Jvm.ClassFile.FieldType)) ∈ lw_all := lw_g (lw_at lw_m1 87 rfl) rfl
theorem q192 : (Jvm.Cond.instanceMethod ({ cls := "FunDesk$Nil", name := "<init>", desc := "()V" } : Jvm.MethodName)) ∈ lw_all := lw_g (lw_at lw_m1 86 rfl) rfl
theorem am_mok76 : am_mok 76 := ⟨q193, q112, rfl, (by decide), ⟨by decide, by decide⟩, (by decide +kernel), fun h => absurd h (by decide), fun _ => q192, fun _ => ⟨rfl, rfl, rfl⟩, fun h => absurd rfl h⟩
theorem q1406 : (Jvm.Cond.code ({ cls := "FunDeskModel", name := "<init>", desc := "()V" } : Jvm.MethodName) prog_28_method_1_code (1 : Nat) (Option.none : Option Jvm.ClassFile.FieldType)) ∈ lw_all := lw_g (lw_at lw_m6 100 rfl) rfl
theorem q1405 : (Jvm.Cond.instanceMethod ({ cls := "FunDeskModel", name := "<init>", desc := "()V" } : Jvm.MethodName)) ∈ lw_all := lw_g (lw_at lw_m6 99 rfl) rfl
theorem am_mok77 : am_mok 77 := ⟨q1406, q113, rfl, (by decide), ⟨by decide, by decide⟩, (by decide +kernel), fun h => absurd h (by decide), fun _ => q1405, fun _ => ⟨rfl, rfl, rfl⟩, fun h => absurd rfl h⟩
theorem q1631 : (Jvm.Cond.code ({ cls := "FunDeskModel", name := "thrown", desc := "()I" } : Jvm.MethodName) prog_28_method_2_code (1 : Nat) (Option.some Jvm.ClassFile.FieldType.int)) ∈ lw_all := lw_g (lw_at lw_m7 85 rfl) rfl
theorem q1629 : (Jvm.Cond.instanceMethod ({ cls := "FunDeskModel", name := "thrown", desc := "()I" } : Jvm.MethodName)) ∈ lw_all := lw_g (lw_at lw_m7 83 rfl) rfl
theorem am_mok78 : am_mok 78 := ⟨q1631, q113, rfl, (by decide), ⟨by decide, by decide⟩, (by decide +kernel), fun h => absurd h (by decide), fun _ => q1629, fun h => absurd h (by decide), fun _ => (by decide)⟩
theorem q1635 : (Jvm.Cond.code ({ cls := "FunDeskModel", name := "type", desc := "(C)Z" } : Jvm.MethodName) prog_28_method_3_code (2 : Nat) (Option.some Jvm.ClassFile.FieldType.boolean)) ∈ lw_all := lw_g (lw_at lw_m7 89 rfl) rfl
theorem q1633 : (Jvm.Cond.instanceMethod ({ cls := "FunDeskModel", name := "type", desc := "(C)Z" } : Jvm.MethodName)) ∈ lw_all := lw_g (lw_at lw_m7 87 rfl) rfl
theorem am_mok79 : am_mok 79 := ⟨q1635, q113, rfl, (by decide), ⟨by decide, by decide⟩, (by decide +kernel), fun h => absurd h (by decide), fun _ => q1633, fun h => absurd h (by decide), fun _ => (by decide)⟩
theorem q1639 : (Jvm.Cond.code ({ cls := "FunDeskModel", name := "wipe", desc := "()V" } : Jvm.MethodName) prog_28_method_4_code (1 : Nat) (Option.none : Option Jvm.ClassFile.FieldType)) ∈ lw_all := lw_g (lw_at lw_m7 93 rfl) rfl
theorem q1637 : (Jvm.Cond.instanceMethod ({ cls := "FunDeskModel", name := "wipe", desc := "()V" } : Jvm.MethodName)) ∈ lw_all := lw_g (lw_at lw_m7 91 rfl) rfl
theorem am_mok80 : am_mok 80 := ⟨q1639, q113, rfl, (by decide), ⟨by decide, by decide⟩, (by decide +kernel), fun h => absurd h (by decide), fun _ => q1637, fun h => absurd h (by decide), fun _ => (by decide)⟩
theorem q1643 : (Jvm.Cond.code ({ cls := "FunDeskModel", name := "load", desc := "()I" } : Jvm.MethodName) prog_28_method_73_code (1 : Nat) (Option.some Jvm.ClassFile.FieldType.int)) ∈ lw_all := lw_g (lw_at lw_m7 97 rfl) rfl
theorem q1641 : (Jvm.Cond.instanceMethod ({ cls := "FunDeskModel", name := "load", desc := "()I" } : Jvm.MethodName)) ∈ lw_all := lw_g (lw_at lw_m7 95 rfl) rfl
theorem am_mok81 : am_mok 81 := ⟨q1643, q113, rfl, (by decide), ⟨by decide, by decide⟩, (by decide +kernel), fun h => absurd h (by decide), fun _ => q1641, fun h => absurd h (by decide), fun _ => (by decide)⟩
theorem q1647 : (Jvm.Cond.code ({ cls := "FunDeskModel", name := "reads", desc := "()Z" } : Jvm.MethodName) prog_28_method_30_code (3 : Nat) (Option.some Jvm.ClassFile.FieldType.boolean)) ∈ lw_all := lw_g (lw_at lw_m7 101 rfl) rfl
theorem q1646 : (Jvm.Cond.instanceMethod ({ cls := "FunDeskModel", name := "reads", desc := "()Z" } : Jvm.MethodName)) ∈ lw_all := lw_g (lw_at lw_m7 100 rfl) rfl
theorem am_mok82 : am_mok 82 := ⟨q1647, q113, rfl, (by decide), ⟨by decide, by decide⟩, (by decide +kernel), fun h => absurd h (by decide), fun _ => q1646, fun h => absurd h (by decide), fun _ => (by decide)⟩
theorem q1651 : (Jvm.Cond.code ({ cls := "FunDeskModel", name := "begin", desc := "(I)V" } : Jvm.MethodName) prog_28_method_18_code (2 : Nat) (Option.none : Option Jvm.ClassFile.FieldType)) ∈ lw_all := lw_g (lw_at lw_m7 105 rfl) rfl
theorem q1650 : (Jvm.Cond.instanceMethod ({ cls := "FunDeskModel", name := "begin", desc := "(I)V" } : Jvm.MethodName)) ∈ lw_all := lw_g (lw_at lw_m7 104 rfl) rfl
theorem am_mok83 : am_mok 83 := ⟨q1651, q113, rfl, (by decide), ⟨by decide, by decide⟩, (by decide +kernel), fun h => absurd h (by decide), fun _ => q1650, fun h => absurd h (by decide), fun _ => (by decide)⟩
theorem q1655 : (Jvm.Cond.code ({ cls := "FunDeskModel", name := "exprBegins", desc := "(I)V" } : Jvm.MethodName) prog_28_method_22_code (5 : Nat) (Option.none : Option Jvm.ClassFile.FieldType)) ∈ lw_all := lw_g (lw_at lw_m7 109 rfl) rfl
theorem q1654 : (Jvm.Cond.instanceMethod ({ cls := "FunDeskModel", name := "exprBegins", desc := "(I)V" } : Jvm.MethodName)) ∈ lw_all := lw_g (lw_at lw_m7 108 rfl) rfl
theorem am_mok84 : am_mok 84 := ⟨q1655, q113, rfl, (by decide), ⟨by decide, by decide⟩, (by decide +kernel), fun h => absurd h (by decide), fun _ => q1654, fun h => absurd h (by decide), fun _ => (by decide)⟩
theorem q1659 : (Jvm.Cond.code ({ cls := "FunDeskModel", name := "deeper", desc := "()V" } : Jvm.MethodName) prog_28_method_20_code (1 : Nat) (Option.none : Option Jvm.ClassFile.FieldType)) ∈ lw_all := lw_g (lw_at lw_m7 113 rfl) rfl
theorem q1658 : (Jvm.Cond.instanceMethod ({ cls := "FunDeskModel", name := "deeper", desc := "()V" } : Jvm.MethodName)) ∈ lw_all := lw_g (lw_at lw_m7 112 rfl) rfl
theorem am_mok85 : am_mok 85 := ⟨q1659, q113, rfl, (by decide), ⟨by decide, by decide⟩, (by decide +kernel), fun h => absurd h (by decide), fun _ => q1658, fun h => absurd h (by decide), fun _ => (by decide)⟩
theorem q1663 : (Jvm.Cond.code ({ cls := "FunDeskModel", name := "peek", desc := "()C" } : Jvm.MethodName) prog_28_method_6_code (1 : Nat) (Option.some Jvm.ClassFile.FieldType.char)) ∈ lw_all := lw_g (lw_at lw_m7 117 rfl) rfl
theorem q1662 : (Jvm.Cond.instanceMethod ({ cls := "FunDeskModel", name := "peek", desc := "()C" } : Jvm.MethodName)) ∈ lw_all := lw_g (lw_at lw_m7 116 rfl) rfl
theorem am_mok86 : am_mok 86 := ⟨q1663, q113, rfl, (by decide), ⟨by decide, by decide⟩, (by decide +kernel), fun h => absurd h (by decide), fun _ => q1662, fun h => absurd h (by decide), fun _ => (by decide)⟩
theorem q1667 : (Jvm.Cond.code ({ cls := "FunDeskModel", name := "here", desc := "()C" } : Jvm.MethodName) prog_28_method_5_code (1 : Nat) (Option.some Jvm.ClassFile.FieldType.char)) ∈ lw_all := lw_g (lw_at lw_m7 121 rfl) rfl
theorem q1666 : (Jvm.Cond.instanceMethod ({ cls := "FunDeskModel", name := "here", desc := "()C" } : Jvm.MethodName)) ∈ lw_all := lw_g (lw_at lw_m7 120 rfl) rfl
theorem am_mok87 : am_mok 87 := ⟨q1667, q113, rfl, (by decide), ⟨by decide, by decide⟩, (by decide +kernel), fun h => absurd h (by decide), fun _ => q1666, fun h => absurd h (by decide), fun _ => (by decide)⟩
theorem q1671 : (Jvm.Cond.code ({ cls := "FunDeskModel", name := "after", desc := "(II)V" } : Jvm.MethodName) prog_28_method_19_code (3 : Nat) (Option.none : Option Jvm.ClassFile.FieldType)) ∈ lw_all := lw_g (lw_at lw_m7 125 rfl) rfl
theorem q1670 : (Jvm.Cond.instanceMethod ({ cls := "FunDeskModel", name := "after", desc := "(II)V" } : Jvm.MethodName)) ∈ lw_all := lw_g (lw_at lw_m7 124 rfl) rfl
theorem am_mok88 : am_mok 88 := ⟨q1671, q113, rfl, (by decide), ⟨by decide, by decide⟩, (by decide +kernel), fun h => absurd h (by decide), fun _ => q1670, fun h => absurd h (by decide), fun _ => (by decide)⟩
theorem q1675 : (Jvm.Cond.code ({ cls := "FunDeskModel", name := "name", desc := "()I" } : Jvm.MethodName) prog_28_method_12_code (2 : Nat) (Option.some Jvm.ClassFile.FieldType.int)) ∈ lw_all := lw_g (lw_at lw_m7 129 rfl) rfl
theorem q1674 : (Jvm.Cond.instanceMethod ({ cls := "FunDeskModel", name := "name", desc := "()I" } : Jvm.MethodName)) ∈ lw_all := lw_g (lw_at lw_m7 128 rfl) rfl
theorem am_mok89 : am_mok 89 := ⟨q1675, q113, rfl, (by decide), ⟨by decide, by decide⟩, (by decide +kernel), fun h => absurd h (by decide), fun _ => q1674, fun h => absurd h (by decide), fun _ => (by decide)⟩
theorem q1678 : (Jvm.Cond.code ({ cls := "FunDeskModel", name := "letter", desc := "(C)Z" } : Jvm.MethodName) prog_28_method_10_code (1 : Nat) (Option.some Jvm.ClassFile.FieldType.boolean)) ∈ lw_all := lw_g (lw_at lw_m7 132 rfl) rfl
theorem q1677 : (Jvm.Cond.static ({ cls := "FunDeskModel", name := "letter", desc := "(C)Z" } : Jvm.MethodName)) ∈ lw_all := lw_g (lw_at lw_m7 131 rfl) rfl
theorem am_mok90 : am_mok 90 := ⟨q1678, q113, rfl, (by decide), ⟨by decide, by decide⟩, (by decide +kernel), fun _ => q1677, fun h => absurd rfl h, fun h => absurd h (by decide), fun _ => (by decide)⟩
theorem q1682 : (Jvm.Cond.code ({ cls := "FunDeskModel", name := "want", desc := "(C)V" } : Jvm.MethodName) prog_28_method_8_code (2 : Nat) (Option.none : Option Jvm.ClassFile.FieldType)) ∈ lw_all := lw_g (lw_at lw_m7 136 rfl) rfl
theorem q1681 : (Jvm.Cond.instanceMethod ({ cls := "FunDeskModel", name := "want", desc := "(C)V" } : Jvm.MethodName)) ∈ lw_all := lw_g (lw_at lw_m7 135 rfl) rfl
theorem am_mok91 : am_mok 91 := ⟨q1682, q113, rfl, (by decide), ⟨by decide, by decide⟩, (by decide +kernel), fun h => absurd h (by decide), fun _ => q1681, fun h => absurd h (by decide), fun _ => (by decide)⟩
theorem q1686 : (Jvm.Cond.code ({ cls := "FunDeskModel", name := "eat", desc := "(C)Z" } : Jvm.MethodName) prog_28_method_7_code (3 : Nat) (Option.some Jvm.ClassFile.FieldType.boolean)) ∈ lw_all := lw_g (lw_at lw_m7 140 rfl) rfl
theorem q1685 : (Jvm.Cond.instanceMethod ({ cls := "FunDeskModel", name := "eat", desc := "(C)Z" } : Jvm.MethodName)) ∈ lw_all := lw_g (lw_at lw_m7 139 rfl) rfl
theorem am_mok92 : am_mok 92 := ⟨q1686, q113, rfl, (by decide), ⟨by decide, by decide⟩, (by decide +kernel), fun h => absurd h (by decide), fun _ => q1685, fun h => absurd h (by decide), fun _ => (by decide)⟩
theorem q1690 : (Jvm.Cond.code ({ cls := "FunDeskModel", name := "put", desc := "(III)V" } : Jvm.MethodName) prog_28_method_15_code (4 : Nat) (Option.none : Option Jvm.ClassFile.FieldType)) ∈ lw_all := lw_g (lw_at lw_m7 144 rfl) rfl
theorem q1689 : (Jvm.Cond.instanceMethod ({ cls := "FunDeskModel", name := "put", desc := "(III)V" } : Jvm.MethodName)) ∈ lw_all := lw_g (lw_at lw_m7 143 rfl) rfl
theorem am_mok93 : am_mok 93 := ⟨q1690, q113, rfl, (by decide), ⟨by decide, by decide⟩, (by decide +kernel), fun h => absurd h (by decide), fun _ => q1689, fun h => absurd h (by decide), fun _ => (by decide)⟩
theorem q1694 : (Jvm.Cond.code ({ cls := "FunDeskModel", name := "exprGoesOn", desc := "(I)V" } : Jvm.MethodName) prog_28_method_25_code (4 : Nat) (Option.none : Option Jvm.ClassFile.FieldType)) ∈ lw_all := lw_g (lw_at lw_m7 148 rfl) rfl
theorem q1693 : (Jvm.Cond.instanceMethod ({ cls := "FunDeskModel", name := "exprGoesOn", desc := "(I)V" } : Jvm.MethodName)) ∈ lw_all := lw_g (lw_at lw_m7 147 rfl) rfl
theorem am_mok94 : am_mok 94 := ⟨q1694, q113, rfl, (by decide), ⟨by decide, by decide⟩, (by decide +kernel), fun h => absurd h (by decide), fun _ => q1693, fun h => absurd h (by decide), fun _ => (by decide)⟩
theorem q1698 : (Jvm.Cond.code ({ cls := "FunDeskModel", name := "clauseEnds", desc := "(I)V" } : Jvm.MethodName) prog_28_method_24_code (6 : Nat) (Option.none : Option Jvm.ClassFile.FieldType)) ∈ lw_all := lw_g (lw_at lw_m7 152 rfl) rfl
theorem q1697 : (Jvm.Cond.instanceMethod ({ cls := "FunDeskModel", name := "clauseEnds", desc := "(I)V" } : Jvm.MethodName)) ∈ lw_all := lw_g (lw_at lw_m7 151 rfl) rfl
theorem am_mok95 : am_mok 95 := ⟨q1698, q113, rfl, (by decide), ⟨by decide, by decide⟩, (by decide +kernel), fun h => absurd h (by decide), fun _ => q1697, fun h => absurd h (by decide), fun _ => (by decide)⟩
theorem q1703 : (Jvm.Cond.code ({ cls := "FunDeskModel", name := "clauseBegins", desc := "(I)V" } : Jvm.MethodName) prog_28_method_23_code (2 : Nat) (Option.none : Option Jvm.ClassFile.FieldType)) ∈ lw_all := lw_g (lw_at lw_m7 157 rfl) rfl
theorem q1702 : (Jvm.Cond.instanceMethod ({ cls := "FunDeskModel", name := "clauseBegins", desc := "(I)V" } : Jvm.MethodName)) ∈ lw_all := lw_g (lw_at lw_m7 156 rfl) rfl
theorem am_mok96 : am_mok 96 := ⟨q1703, q113, rfl, (by decide), ⟨by decide, by decide⟩, (by decide +kernel), fun h => absurd h (by decide), fun _ => q1702, fun h => absurd h (by decide), fun _ => (by decide)⟩
theorem q1707 : (Jvm.Cond.code ({ cls := "FunDeskModel", name := "endsDeep", desc := "()V" } : Jvm.MethodName) prog_28_method_21_code (1 : Nat) (Option.none : Option Jvm.ClassFile.FieldType)) ∈ lw_all := lw_g (lw_at lw_m7 161 rfl) rfl
theorem q1706 : (Jvm.Cond.instanceMethod ({ cls := "FunDeskModel", name := "endsDeep", desc := "()V" } : Jvm.MethodName)) ∈ lw_all := lw_g (lw_at lw_m7 160 rfl) rfl
theorem am_mok97 : am_mok 97 := ⟨q1707, q113, rfl, (by decide), ⟨by decide, by decide⟩, (by decide +kernel), fun h => absurd h (by decide), fun _ => q1706, fun h => absurd h (by decide), fun _ => (by decide)⟩
theorem q1711 : (Jvm.Cond.code ({ cls := "FunDeskModel", name := "operands", desc := "(I)V" } : Jvm.MethodName) prog_28_method_29_code (4 : Nat) (Option.none : Option Jvm.ClassFile.FieldType)) ∈ lw_all := lw_g (lw_at lw_m7 165 rfl) rfl
theorem q1710 : (Jvm.Cond.instanceMethod ({ cls := "FunDeskModel", name := "operands", desc := "(I)V" } : Jvm.MethodName)) ∈ lw_all := lw_g (lw_at lw_m7 164 rfl) rfl
theorem am_mok98 : am_mok 98 := ⟨q1711, q113, rfl, (by decide), ⟨by decide, by decide⟩, (by decide +kernel), fun h => absurd h (by decide), fun _ => q1710, fun h => absurd h (by decide), fun _ => (by decide)⟩
theorem q1714 : (Jvm.Cond.code ({ cls := "FunDeskModel", name := "atomBegins", desc := "(C)Z" } : Jvm.MethodName) prog_28_method_11_code (1 : Nat) (Option.some Jvm.ClassFile.FieldType.boolean)) ∈ lw_all := lw_g (lw_at lw_m7 168 rfl) rfl
theorem q1713 : (Jvm.Cond.static ({ cls := "FunDeskModel", name := "atomBegins", desc := "(C)Z" } : Jvm.MethodName)) ∈ lw_all := lw_g (lw_at lw_m7 167 rfl) rfl
theorem am_mok99 : am_mok 99 := ⟨q1714, q113, rfl, (by decide), ⟨by decide, by decide⟩, (by decide +kernel), fun _ => q1713, fun h => absurd rfl h, fun h => absurd h (by decide), fun _ => (by decide)⟩
theorem q1717 : (Jvm.Cond.code ({ cls := "FunDeskModel", name := "digit", desc := "(C)Z" } : Jvm.MethodName) prog_28_method_9_code (1 : Nat) (Option.some Jvm.ClassFile.FieldType.boolean)) ∈ lw_all := lw_g (lw_at lw_m7 171 rfl) rfl
theorem q1716 : (Jvm.Cond.static ({ cls := "FunDeskModel", name := "digit", desc := "(C)Z" } : Jvm.MethodName)) ∈ lw_all := lw_g (lw_at lw_m7 170 rfl) rfl
theorem am_mok100 : am_mok 100 := ⟨q1717, q113, rfl, (by decide), ⟨by decide, by decide⟩, (by decide +kernel), fun _ => q1716, fun h => absurd rfl h, fun h => absurd h (by decide), fun _ => (by decide)⟩
theorem q1721 : (Jvm.Cond.code ({ cls := "FunDeskModel", name := "operator", desc := "(I)I" } : Jvm.MethodName) prog_28_method_14_code (4 : Nat) (Option.some Jvm.ClassFile.FieldType.int)) ∈ lw_all := lw_g (lw_at lw_m7 175 rfl) rfl
theorem q1720 : (Jvm.Cond.instanceMethod ({ cls := "FunDeskModel", name := "operator", desc := "(I)I" } : Jvm.MethodName)) ∈ lw_all := lw_g (lw_at lw_m7 174 rfl) rfl
theorem am_mok101 : am_mok 101 := ⟨q1721, q113, rfl, (by decide), ⟨by decide, by decide⟩, (by decide +kernel), fun h => absurd h (by decide), fun _ => q1720, fun h => absurd h (by decide), fun _ => (by decide)⟩
theorem q1725 : (Jvm.Cond.code ({ cls := "FunDeskModel", name := "atom", desc := "(I)V" } : Jvm.MethodName) prog_28_method_26_code (7 : Nat) (Option.none : Option Jvm.ClassFile.FieldType)) ∈ lw_all := lw_g (lw_at lw_m7 179 rfl) rfl
theorem q1724 : (Jvm.Cond.instanceMethod ({ cls := "FunDeskModel", name := "atom", desc := "(I)V" } : Jvm.MethodName)) ∈ lw_all := lw_g (lw_at lw_m7 178 rfl) rfl
theorem am_mok102 : am_mok 102 := ⟨q1725, q113, rfl, (by decide), ⟨by decide, by decide⟩, (by decide +kernel), fun h => absurd h (by decide), fun _ => q1724, fun h => absurd h (by decide), fun _ => (by decide)⟩
theorem q1729 : (Jvm.Cond.code ({ cls := "FunDeskModel", name := "digits", desc := "(I)I" } : Jvm.MethodName) prog_28_method_13_code (4 : Nat) (Option.some Jvm.ClassFile.FieldType.int)) ∈ lw_all := lw_g (lw_at lw_m7 183 rfl) rfl
theorem q1728 : (Jvm.Cond.instanceMethod ({ cls := "FunDeskModel", name := "digits", desc := "(I)I" } : Jvm.MethodName)) ∈ lw_all := lw_g (lw_at lw_m7 182 rfl) rfl
theorem am_mok103 : am_mok 103 := ⟨q1729, q113, rfl, (by decide), ⟨by decide, by decide⟩, (by decide +kernel), fun h => absurd h (by decide), fun _ => q1728, fun h => absurd h (by decide), fun _ => (by decide)⟩
theorem q1733 : (Jvm.Cond.code ({ cls := "FunDeskModel", name := "pattern", desc := "(I)V" } : Jvm.MethodName) prog_28_method_28_code (2 : Nat) (Option.none : Option Jvm.ClassFile.FieldType)) ∈ lw_all := lw_g (lw_at lw_m7 187 rfl) rfl
theorem q1732 : (Jvm.Cond.instanceMethod ({ cls := "FunDeskModel", name := "pattern", desc := "(I)V" } : Jvm.MethodName)) ∈ lw_all := lw_g (lw_at lw_m7 186 rfl) rfl
theorem am_mok104 : am_mok 104 := ⟨q1733, q113, rfl, (by decide), ⟨by decide, by decide⟩, (by decide +kernel), fun h => absurd h (by decide), fun _ => q1732, fun h => absurd h (by decide), fun _ => (by decide)⟩
theorem q1737 : (Jvm.Cond.code ({ cls := "FunDeskModel", name := "insertSign", desc := "(I)V" } : Jvm.MethodName) prog_28_method_17_code (3 : Nat) (Option.none : Option Jvm.ClassFile.FieldType)) ∈ lw_all := lw_g (lw_at lw_m7 191 rfl) rfl
theorem q1736 : (Jvm.Cond.instanceMethod ({ cls := "FunDeskModel", name := "insertSign", desc := "(I)V" } : Jvm.MethodName)) ∈ lw_all := lw_g (lw_at lw_m7 190 rfl) rfl
theorem am_mok105 : am_mok 105 := ⟨q1737, q113, rfl, (by decide), ⟨by decide, by decide⟩, (by decide +kernel), fun h => absurd h (by decide), fun _ => q1736, fun h => absurd h (by decide), fun _ => (by decide)⟩
theorem q1741 : (Jvm.Cond.code ({ cls := "FunDeskModel", name := "part", desc := "(I)V" } : Jvm.MethodName) prog_28_method_27_code (4 : Nat) (Option.none : Option Jvm.ClassFile.FieldType)) ∈ lw_all := lw_g (lw_at lw_m7 195 rfl) rfl
theorem q1740 : (Jvm.Cond.instanceMethod ({ cls := "FunDeskModel", name := "part", desc := "(I)V" } : Jvm.MethodName)) ∈ lw_all := lw_g (lw_at lw_m7 194 rfl) rfl
theorem am_mok106 : am_mok 106 := ⟨q1741, q113, rfl, (by decide), ⟨by decide, by decide⟩, (by decide +kernel), fun h => absurd h (by decide), fun _ => q1740, fun h => absurd h (by decide), fun _ => (by decide)⟩
theorem q1745 : (Jvm.Cond.code ({ cls := "FunDeskModel", name := "putSign", desc := "(II)V" } : Jvm.MethodName) prog_28_method_16_code (3 : Nat) (Option.none : Option Jvm.ClassFile.FieldType)) ∈ lw_all := lw_g (lw_at lw_m7 199 rfl) rfl
theorem q1744 : (Jvm.Cond.instanceMethod ({ cls := "FunDeskModel", name := "putSign", desc := "(II)V" } : Jvm.MethodName)) ∈ lw_all := lw_g (lw_at lw_m7 198 rfl) rfl
theorem am_mok107 : am_mok 107 := ⟨q1745, q113, rfl, (by decide), ⟨by decide, by decide⟩, (by decide +kernel), fun h => absurd h (by decide), fun _ => q1744, fun h => absurd h (by decide), fun _ => (by decide)⟩
theorem q1749 : (Jvm.Cond.code ({ cls := "FunDeskModel", name := "namesFound", desc := "()Z" } : Jvm.MethodName) prog_28_method_34_code (3 : Nat) (Option.some Jvm.ClassFile.FieldType.boolean)) ∈ lw_all := lw_g (lw_at lw_m7 203 rfl) rfl
theorem q1748 : (Jvm.Cond.instanceMethod ({ cls := "FunDeskModel", name := "namesFound", desc := "()Z" } : Jvm.MethodName)) ∈ lw_all := lw_g (lw_at lw_m7 202 rfl) rfl
theorem am_mok108 : am_mok 108 := ⟨q1749, q113, rfl, (by decide), ⟨by decide, by decide⟩, (by decide +kernel), fun h => absurd h (by decide), fun _ => q1748, fun h => absurd h (by decide), fun _ => (by decide)⟩
theorem q1753 : (Jvm.Cond.code ({ cls := "FunDeskModel", name := "scope", desc := "(I)V" } : Jvm.MethodName) prog_28_method_33_code (3 : Nat) (Option.none : Option Jvm.ClassFile.FieldType)) ∈ lw_all := lw_g (lw_at lw_m7 207 rfl) rfl
theorem q1752 : (Jvm.Cond.instanceMethod ({ cls := "FunDeskModel", name := "scope", desc := "(I)V" } : Jvm.MethodName)) ∈ lw_all := lw_g (lw_at lw_m7 206 rfl) rfl
theorem am_mok109 : am_mok 109 := ⟨q1753, q113, rfl, (by decide), ⟨by decide, by decide⟩, (by decide +kernel), fun h => absurd h (by decide), fun _ => q1752, fun h => absurd h (by decide), fun _ => (by decide)⟩
theorem q1757 : (Jvm.Cond.code ({ cls := "FunDeskModel", name := "bind", desc := "(II)V" } : Jvm.MethodName) prog_28_method_31_code (3 : Nat) (Option.none : Option Jvm.ClassFile.FieldType)) ∈ lw_all := lw_g (lw_at lw_m7 211 rfl) rfl
theorem q1756 : (Jvm.Cond.instanceMethod ({ cls := "FunDeskModel", name := "bind", desc := "(II)V" } : Jvm.MethodName)) ∈ lw_all := lw_g (lw_at lw_m7 210 rfl) rfl
theorem am_mok110 : am_mok 110 := ⟨q1757, q113, rfl, (by decide), ⟨by decide, by decide⟩, (by decide +kernel), fun h => absurd h (by decide), fun _ => q1756, fun h => absurd h (by decide), fun _ => (by decide)⟩
theorem q1761 : (Jvm.Cond.code ({ cls := "FunDeskModel", name := "bindPattern", desc := "(I)V" } : Jvm.MethodName) prog_28_method_32_code (3 : Nat) (Option.none : Option Jvm.ClassFile.FieldType)) ∈ lw_all := lw_g (lw_at lw_m7 215 rfl) rfl
theorem q1760 : (Jvm.Cond.instanceMethod ({ cls := "FunDeskModel", name := "bindPattern", desc := "(I)V" } : Jvm.MethodName)) ∈ lw_all := lw_g (lw_at lw_m7 214 rfl) rfl
theorem am_mok111 : am_mok 111 := ⟨q1761, q113, rfl, (by decide), ⟨by decide, by decide⟩, (by decide +kernel), fun h => absurd h (by decide), fun _ => q1760, fun h => absurd h (by decide), fun _ => (by decide)⟩
theorem q1765 : (Jvm.Cond.code ({ cls := "FunDeskModel", name := "typesFound", desc := "()Z" } : Jvm.MethodName) prog_28_method_52_code (6 : Nat) (Option.some Jvm.ClassFile.FieldType.boolean)) ∈ lw_all := lw_g (lw_at lw_m7 219 rfl) rfl
theorem q1764 : (Jvm.Cond.instanceMethod ({ cls := "FunDeskModel", name := "typesFound", desc := "()Z" } : Jvm.MethodName)) ∈ lw_all := lw_g (lw_at lw_m7 218 rfl) rfl
theorem am_mok112 : am_mok 112 := ⟨q1765, q113, rfl, (by decide), ⟨by decide, by decide⟩, (by decide +kernel), fun h => absurd h (by decide), fun _ => q1764, fun h => absurd h (by decide), fun _ => (by decide)⟩
theorem q1769 : (Jvm.Cond.code ({ cls := "FunDeskModel", name := "make", desc := "(III)I" } : Jvm.MethodName) prog_28_method_35_code (4 : Nat) (Option.some Jvm.ClassFile.FieldType.int)) ∈ lw_all := lw_g (lw_at lw_m7 223 rfl) rfl
theorem q1768 : (Jvm.Cond.instanceMethod ({ cls := "FunDeskModel", name := "make", desc := "(III)I" } : Jvm.MethodName)) ∈ lw_all := lw_g (lw_at lw_m7 222 rfl) rfl
theorem am_mok113 : am_mok 113 := ⟨q1769, q113, rfl, (by decide), ⟨by decide, by decide⟩, (by decide +kernel), fun h => absurd h (by decide), fun _ => q1768, fun h => absurd h (by decide), fun _ => (by decide)⟩
theorem q1773 : (Jvm.Cond.code ({ cls := "FunDeskModel", name := "typeOf", desc := "(I)V" } : Jvm.MethodName) prog_28_method_50_code (5 : Nat) (Option.none : Option Jvm.ClassFile.FieldType)) ∈ lw_all := lw_g (lw_at lw_m7 227 rfl) rfl
theorem q1772 : (Jvm.Cond.instanceMethod ({ cls := "FunDeskModel", name := "typeOf", desc := "(I)V" } : Jvm.MethodName)) ∈ lw_all := lw_g (lw_at lw_m7 226 rfl) rfl
theorem am_mok114 : am_mok 114 := ⟨q1773, q113, rfl, (by decide), ⟨by decide, by decide⟩, (by decide +kernel), fun h => absurd h (by decide), fun _ => q1772, fun h => absurd h (by decide), fun _ => (by decide)⟩
theorem q1777 : (Jvm.Cond.code ({ cls := "FunDeskModel", name := "push", desc := "(I)V" } : Jvm.MethodName) prog_28_method_41_code (2 : Nat) (Option.none : Option Jvm.ClassFile.FieldType)) ∈ lw_all := lw_g (lw_at lw_m7 231 rfl) rfl
theorem q1776 : (Jvm.Cond.instanceMethod ({ cls := "FunDeskModel", name := "push", desc := "(I)V" } : Jvm.MethodName)) ∈ lw_all := lw_g (lw_at lw_m7 230 rfl) rfl
theorem am_mok115 : am_mok 115 := ⟨q1777, q113, rfl, (by decide), ⟨by decide, by decide⟩, (by decide +kernel), fun h => absurd h (by decide), fun _ => q1776, fun h => absurd h (by decide), fun _ => (by decide)⟩
theorem q1781 : (Jvm.Cond.code ({ cls := "FunDeskModel", name := "fresh", desc := "()I" } : Jvm.MethodName) prog_28_method_36_code (1 : Nat) (Option.some Jvm.ClassFile.FieldType.int)) ∈ lw_all := lw_g (lw_at lw_m7 235 rfl) rfl
theorem q1780 : (Jvm.Cond.instanceMethod ({ cls := "FunDeskModel", name := "fresh", desc := "()I" } : Jvm.MethodName)) ∈ lw_all := lw_g (lw_at lw_m7 234 rfl) rfl
theorem am_mok116 : am_mok 116 := ⟨q1781, q113, rfl, (by decide), ⟨by decide, by decide⟩, (by decide +kernel), fun h => absurd h (by decide), fun _ => q1780, fun h => absurd h (by decide), fun _ => (by decide)⟩
theorem q1785 : (Jvm.Cond.code ({ cls := "FunDeskModel", name := "instance", desc := "(I)I" } : Jvm.MethodName) prog_28_method_45_code (6 : Nat) (Option.some Jvm.ClassFile.FieldType.int)) ∈ lw_all := lw_g (lw_at lw_m7 239 rfl) rfl
theorem q1784 : (Jvm.Cond.instanceMethod ({ cls := "FunDeskModel", name := "instance", desc := "(I)I" } : Jvm.MethodName)) ∈ lw_all := lw_g (lw_at lw_m7 238 rfl) rfl
theorem am_mok117 : am_mok 117 := ⟨q1785, q113, rfl, (by decide), ⟨by decide, by decide⟩, (by decide +kernel), fun h => absurd h (by decide), fun _ => q1784, fun h => absurd h (by decide), fun _ => (by decide)⟩
theorem q1789 : (Jvm.Cond.code ({ cls := "FunDeskModel", name := "width", desc := "(I)I" } : Jvm.MethodName) prog_28_method_38_code (5 : Nat) (Option.some Jvm.ClassFile.FieldType.int)) ∈ lw_all := lw_g (lw_at lw_m8 3 rfl) rfl
theorem q1788 : (Jvm.Cond.instanceMethod ({ cls := "FunDeskModel", name := "width", desc := "(I)I" } : Jvm.MethodName)) ∈ lw_all := lw_g (lw_at lw_m8 2 rfl) rfl
theorem am_mok118 : am_mok 118 := ⟨q1789, q113, rfl, (by decide), ⟨by decide, by decide⟩, (by decide +kernel), fun h => absurd h (by decide), fun _ => q1788, fun h => absurd h (by decide), fun _ => (by decide)⟩
theorem q1793 : (Jvm.Cond.code ({ cls := "FunDeskModel", name := "realType", desc := "(I)I" } : Jvm.MethodName) prog_28_method_37_code (3 : Nat) (Option.some Jvm.ClassFile.FieldType.int)) ∈ lw_all := lw_g (lw_at lw_m8 7 rfl) rfl
theorem q1792 : (Jvm.Cond.instanceMethod ({ cls := "FunDeskModel", name := "realType", desc := "(I)I" } : Jvm.MethodName)) ∈ lw_all := lw_g (lw_at lw_m8 6 rfl) rfl
theorem am_mok119 : am_mok 119 := ⟨q1793, q113, rfl, (by decide), ⟨by decide, by decide⟩, (by decide +kernel), fun h => absurd h (by decide), fun _ => q1792, fun h => absurd h (by decide), fun _ => (by decide)⟩
theorem q1797 : (Jvm.Cond.code ({ cls := "FunDeskModel", name := "copyOf", desc := "(I)I" } : Jvm.MethodName) prog_28_method_44_code (3 : Nat) (Option.some Jvm.ClassFile.FieldType.int)) ∈ lw_all := lw_g (lw_at lw_m8 11 rfl) rfl
theorem q1796 : (Jvm.Cond.instanceMethod ({ cls := "FunDeskModel", name := "copyOf", desc := "(I)I" } : Jvm.MethodName)) ∈ lw_all := lw_g (lw_at lw_m8 10 rfl) rfl
theorem am_mok120 : am_mok 120 := ⟨q1797, q113, rfl, (by decide), ⟨by decide, by decide⟩, (by decide +kernel), fun h => absurd h (by decide), fun _ => q1796, fun h => absurd h (by decide), fun _ => (by decide)⟩
theorem q1801 : (Jvm.Cond.code ({ cls := "FunDeskModel", name := "pop", desc := "()I" } : Jvm.MethodName) prog_28_method_42_code (1 : Nat) (Option.some Jvm.ClassFile.FieldType.int)) ∈ lw_all := lw_g (lw_at lw_m8 15 rfl) rfl
theorem q1800 : (Jvm.Cond.instanceMethod ({ cls := "FunDeskModel", name := "pop", desc := "()I" } : Jvm.MethodName)) ∈ lw_all := lw_g (lw_at lw_m8 14 rfl) rfl
theorem am_mok121 : am_mok 121 := ⟨q1801, q113, rfl, (by decide), ⟨by decide, by decide⟩, (by decide +kernel), fun h => absurd h (by decide), fun _ => q1800, fun h => absurd h (by decide), fun _ => (by decide)⟩
theorem q1805 : (Jvm.Cond.code ({ cls := "FunDeskModel", name := "applied", desc := "()V" } : Jvm.MethodName) prog_28_method_49_code (3 : Nat) (Option.none : Option Jvm.ClassFile.FieldType)) ∈ lw_all := lw_g (lw_at lw_m8 19 rfl) rfl
theorem q1804 : (Jvm.Cond.instanceMethod ({ cls := "FunDeskModel", name := "applied", desc := "()V" } : Jvm.MethodName)) ∈ lw_all := lw_g (lw_at lw_m8 18 rfl) rfl
theorem am_mok122 : am_mok 122 := ⟨q1805, q113, rfl, (by decide), ⟨by decide, by decide⟩, (by decide +kernel), fun h => absurd h (by decide), fun _ => q1804, fun h => absurd h (by decide), fun _ => (by decide)⟩
theorem q1809 : (Jvm.Cond.code ({ cls := "FunDeskModel", name := "unify", desc := "(II)V" } : Jvm.MethodName) prog_28_method_40_code (8 : Nat) (Option.none : Option Jvm.ClassFile.FieldType)) ∈ lw_all := lw_g (lw_at lw_m8 23 rfl) rfl
theorem q1808 : (Jvm.Cond.instanceMethod ({ cls := "FunDeskModel", name := "unify", desc := "(II)V" } : Jvm.MethodName)) ∈ lw_all := lw_g (lw_at lw_m8 22 rfl) rfl
theorem am_mok123 : am_mok 123 := ⟨q1809, q113, rfl, (by decide), ⟨by decide, by decide⟩, (by decide +kernel), fun h => absurd h (by decide), fun _ => q1808, fun h => absurd h (by decide), fun _ => (by decide)⟩
theorem q1813 : (Jvm.Cond.code ({ cls := "FunDeskModel", name := "standsIn", desc := "(II)Z" } : Jvm.MethodName) prog_28_method_39_code (3 : Nat) (Option.some Jvm.ClassFile.FieldType.boolean)) ∈ lw_all := lw_g (lw_at lw_m8 27 rfl) rfl
theorem q1812 : (Jvm.Cond.instanceMethod ({ cls := "FunDeskModel", name := "standsIn", desc := "(II)Z" } : Jvm.MethodName)) ∈ lw_all := lw_g (lw_at lw_m8 26 rfl) rfl
theorem am_mok124 : am_mok 124 := ⟨q1813, q113, rfl, (by decide), ⟨by decide, by decide⟩, (by decide +kernel), fun h => absurd h (by decide), fun _ => q1812, fun h => absurd h (by decide), fun _ => (by decide)⟩
theorem q1817 : (Jvm.Cond.code ({ cls := "FunDeskModel", name := "operation", desc := "(I)V" } : Jvm.MethodName) prog_28_method_47_code (4 : Nat) (Option.none : Option Jvm.ClassFile.FieldType)) ∈ lw_all := lw_g (lw_at lw_m8 31 rfl) rfl
theorem q1816 : (Jvm.Cond.instanceMethod ({ cls := "FunDeskModel", name := "operation", desc := "(I)V" } : Jvm.MethodName)) ∈ lw_all := lw_g (lw_at lw_m8 30 rfl) rfl
theorem am_mok125 : am_mok 125 := ⟨q1817, q113, rfl, (by decide), ⟨by decide, by decide⟩, (by decide +kernel), fun h => absurd h (by decide), fun _ => q1816, fun h => absurd h (by decide), fun _ => (by decide)⟩
theorem q1821 : (Jvm.Cond.code ({ cls := "FunDeskModel", name := "operand", desc := "(I)I" } : Jvm.MethodName) prog_28_method_46_code (2 : Nat) (Option.some Jvm.ClassFile.FieldType.int)) ∈ lw_all := lw_g (lw_at lw_m8 35 rfl) rfl
theorem q1820 : (Jvm.Cond.instanceMethod ({ cls := "FunDeskModel", name := "operand", desc := "(I)I" } : Jvm.MethodName)) ∈ lw_all := lw_g (lw_at lw_m8 34 rfl) rfl
theorem am_mok126 : am_mok 126 := ⟨q1821, q113, rfl, (by decide), ⟨by decide, by decide⟩, (by decide +kernel), fun h => absurd h (by decide), fun _ => q1820, fun h => absurd h (by decide), fun _ => (by decide)⟩
theorem q1825 : (Jvm.Cond.code ({ cls := "FunDeskModel", name := "bindingType", desc := "(II)V" } : Jvm.MethodName) prog_28_method_51_code (4 : Nat) (Option.none : Option Jvm.ClassFile.FieldType)) ∈ lw_all := lw_g (lw_at lw_m8 39 rfl) rfl
theorem q1824 : (Jvm.Cond.instanceMethod ({ cls := "FunDeskModel", name := "bindingType", desc := "(II)V" } : Jvm.MethodName)) ∈ lw_all := lw_g (lw_at lw_m8 38 rfl) rfl
theorem am_mok127 : am_mok 127 := ⟨q1825, q113, rfl, (by decide), ⟨by decide, by decide⟩, (by decide +kernel), fun h => absurd h (by decide), fun _ => q1824, fun h => absurd h (by decide), fun _ => (by decide)⟩
theorem q1829 : (Jvm.Cond.code ({ cls := "FunDeskModel", name := "generalize", desc := "(I)V" } : Jvm.MethodName) prog_28_method_43_code (5 : Nat) (Option.none : Option Jvm.ClassFile.FieldType)) ∈ lw_all := lw_g (lw_at lw_m8 43 rfl) rfl
theorem q1828 : (Jvm.Cond.instanceMethod ({ cls := "FunDeskModel", name := "generalize", desc := "(I)V" } : Jvm.MethodName)) ∈ lw_all := lw_g (lw_at lw_m8 42 rfl) rfl
theorem am_mok128 : am_mok 128 := ⟨q1829, q113, rfl, (by decide), ⟨by decide, by decide⟩, (by decide +kernel), fun h => absurd h (by decide), fun _ => q1828, fun h => absurd h (by decide), fun _ => (by decide)⟩
theorem q1833 : (Jvm.Cond.code ({ cls := "FunDeskModel", name := "patternTypes", desc := "(II)V" } : Jvm.MethodName) prog_28_method_48_code (8 : Nat) (Option.none : Option Jvm.ClassFile.FieldType)) ∈ lw_all := lw_g (lw_at lw_m8 47 rfl) rfl
theorem q1832 : (Jvm.Cond.instanceMethod ({ cls := "FunDeskModel", name := "patternTypes", desc := "(II)V" } : Jvm.MethodName)) ∈ lw_all := lw_g (lw_at lw_m8 46 rfl) rfl
theorem am_mok129 : am_mok 129 := ⟨q1833, q113, rfl, (by decide), ⟨by decide, by decide⟩, (by decide +kernel), fun h => absurd h (by decide), fun _ => q1832, fun h => absurd h (by decide), fun _ => (by decide)⟩
theorem q1837 : (Jvm.Cond.code ({ cls := "FunDeskModel", name := "startProgram", desc := "()V" } : Jvm.MethodName) prog_28_method_72_code (2 : Nat) (Option.none : Option Jvm.ClassFile.FieldType)) ∈ lw_all := lw_g (lw_at lw_m8 51 rfl) rfl
theorem q1836 : (Jvm.Cond.instanceMethod ({ cls := "FunDeskModel", name := "startProgram", desc := "()V" } : Jvm.MethodName)) ∈ lw_all := lw_g (lw_at lw_m8 50 rfl) rfl
theorem am_mok130 : am_mok 130 := ⟨q1837, q113, rfl, (by decide), ⟨by decide, by decide⟩, (by decide +kernel), fun h => absurd h (by decide), fun _ => q1836, fun h => absurd h (by decide), fun _ => (by decide)⟩
theorem q1841 : (Jvm.Cond.code ({ cls := "FunDeskModel", name := "show", desc := "(I)V" } : Jvm.MethodName) prog_28_method_53_code (6 : Nat) (Option.none : Option Jvm.ClassFile.FieldType)) ∈ lw_all := lw_g (lw_at lw_m8 55 rfl) rfl
theorem q1840 : (Jvm.Cond.instanceMethod ({ cls := "FunDeskModel", name := "show", desc := "(I)V" } : Jvm.MethodName)) ∈ lw_all := lw_g (lw_at lw_m8 54 rfl) rfl
theorem am_mok131 : am_mok 131 := ⟨q1841, q113, rfl, (by decide), ⟨by decide, by decide⟩, (by decide +kernel), fun h => absurd h (by decide), fun _ => q1840, fun h => absurd h (by decide), fun _ => (by decide)⟩
theorem q1845 : (Jvm.Cond.code ({ cls := "FunDeskModel", name := "shown", desc := "(I)I" } : Jvm.MethodName) prog_28_method_74_code (2 : Nat) (Option.some Jvm.ClassFile.FieldType.int)) ∈ lw_all := lw_g (lw_at lw_m8 59 rfl) rfl
theorem q1843 : (Jvm.Cond.instanceMethod ({ cls := "FunDeskModel", name := "shown", desc := "(I)I" } : Jvm.MethodName)) ∈ lw_all := lw_g (lw_at lw_m8 57 rfl) rfl
theorem am_mok132 : am_mok 132 := ⟨q1845, q113, rfl, (by decide), ⟨by decide, by decide⟩, (by decide +kernel), fun h => absurd h (by decide), fun _ => q1843, fun h => absurd h (by decide), fun _ => (by decide)⟩
theorem q1849 : (Jvm.Cond.code ({ cls := "FunDeskModel", name := "run", desc := "(I)I" } : Jvm.MethodName) prog_28_method_76_code (3 : Nat) (Option.some Jvm.ClassFile.FieldType.int)) ∈ lw_all := lw_g (lw_at lw_m8 63 rfl) rfl
theorem q1847 : (Jvm.Cond.instanceMethod ({ cls := "FunDeskModel", name := "run", desc := "(I)I" } : Jvm.MethodName)) ∈ lw_all := lw_g (lw_at lw_m8 61 rfl) rfl
theorem am_mok133 : am_mok 133 := ⟨q1849, q113, rfl, (by decide), ⟨by decide, by decide⟩, (by decide +kernel), fun h => absurd h (by decide), fun _ => q1847, fun h => absurd h (by decide), fun _ => (by decide)⟩
theorem q1853 : (Jvm.Cond.code ({ cls := "FunDeskModel", name := "stepIsDue", desc := "()Z" } : Jvm.MethodName) prog_28_method_75_code (1 : Nat) (Option.some Jvm.ClassFile.FieldType.boolean)) ∈ lw_all := lw_g (lw_at lw_m8 67 rfl) rfl
theorem q1852 : (Jvm.Cond.instanceMethod ({ cls := "FunDeskModel", name := "stepIsDue", desc := "()Z" } : Jvm.MethodName)) ∈ lw_all := lw_g (lw_at lw_m8 66 rfl) rfl
theorem am_mok134 : am_mok 134 := ⟨q1853, q113, rfl, (by decide), ⟨by decide, by decide⟩, (by decide +kernel), fun h => absurd h (by decide), fun _ => q1852, fun h => absurd h (by decide), fun _ => (by decide)⟩
theorem q1856 : (Jvm.Cond.code ({ cls := "FunDeskModel", name := "isStep", desc := "(I)Z" } : Jvm.MethodName) prog_28_method_62_code (1 : Nat) (Option.some Jvm.ClassFile.FieldType.boolean)) ∈ lw_all := lw_g (lw_at lw_m8 70 rfl) rfl
theorem q1855 : (Jvm.Cond.static ({ cls := "FunDeskModel", name := "isStep", desc := "(I)Z" } : Jvm.MethodName)) ∈ lw_all := lw_g (lw_at lw_m8 69 rfl) rfl
theorem am_mok135 : am_mok 135 := ⟨q1856, q113, rfl, (by decide), ⟨by decide, by decide⟩, (by decide +kernel), fun _ => q1855, fun h => absurd rfl h, fun h => absurd h (by decide), fun _ => (by decide)⟩
theorem q1860 : (Jvm.Cond.code ({ cls := "FunDeskModel", name := "execute", desc := "()V" } : Jvm.MethodName) prog_28_method_69_code (4 : Nat) (Option.none : Option Jvm.ClassFile.FieldType)) ∈ lw_all := lw_g (lw_at lw_m8 74 rfl) rfl
theorem q1859 : (Jvm.Cond.instanceMethod ({ cls := "FunDeskModel", name := "execute", desc := "()V" } : Jvm.MethodName)) ∈ lw_all := lw_g (lw_at lw_m8 73 rfl) rfl
theorem am_mok136 : am_mok 136 := ⟨q1860, q113, rfl, (by decide), ⟨by decide, by decide⟩, (by decide +kernel), fun h => absurd h (by decide), fun _ => q1859, fun h => absurd h (by decide), fun _ => (by decide)⟩
theorem q1864 : (Jvm.Cond.code ({ cls := "FunDeskModel", name := "known", desc := "(II)V" } : Jvm.MethodName) prog_28_method_55_code (3 : Nat) (Option.none : Option Jvm.ClassFile.FieldType)) ∈ lw_all := lw_g (lw_at lw_m8 78 rfl) rfl
theorem q1863 : (Jvm.Cond.instanceMethod ({ cls := "FunDeskModel", name := "known", desc := "(II)V" } : Jvm.MethodName)) ∈ lw_all := lw_g (lw_at lw_m8 77 rfl) rfl
theorem am_mok137 : am_mok 137 := ⟨q1864, q113, rfl, (by decide), ⟨by decide, by decide⟩, (by decide +kernel), fun h => absurd h (by decide), fun _ => q1863, fun h => absurd h (by decide), fun _ => (by decide)⟩
theorem q1868 : (Jvm.Cond.code ({ cls := "FunDeskModel", name := "fail", desc := "(I)V" } : Jvm.MethodName) prog_28_method_54_code (2 : Nat) (Option.none : Option Jvm.ClassFile.FieldType)) ∈ lw_all := lw_g (lw_at lw_m8 82 rfl) rfl
theorem q1867 : (Jvm.Cond.instanceMethod ({ cls := "FunDeskModel", name := "fail", desc := "(I)V" } : Jvm.MethodName)) ∈ lw_all := lw_g (lw_at lw_m8 81 rfl) rfl
theorem am_mok138 : am_mok 138 := ⟨q1868, q113, rfl, (by decide), ⟨by decide, by decide⟩, (by decide +kernel), fun h => absurd h (by decide), fun _ => q1867, fun h => absurd h (by decide), fun _ => (by decide)⟩
theorem q1873 : (Jvm.Cond.code ({ cls := "FunDeskModel", name := "further", desc := "(I)I" } : Jvm.MethodName) prog_28_method_68_code (4 : Nat) (Option.some Jvm.ClassFile.FieldType.int)) ∈ lw_all := lw_g (lw_at lw_m8 87 rfl) rfl
theorem q1872 : (Jvm.Cond.instanceMethod ({ cls := "FunDeskModel", name := "further", desc := "(I)I" } : Jvm.MethodName)) ∈ lw_all := lw_g (lw_at lw_m8 86 rfl) rfl
theorem am_mok139 : am_mok 139 := ⟨q1873, q113, rfl, (by decide), ⟨by decide, by decide⟩, (by decide +kernel), fun h => absurd h (by decide), fun _ => q1872, fun h => absurd h (by decide), fun _ => (by decide)⟩
theorem q1877 : (Jvm.Cond.code ({ cls := "FunDeskModel", name := "knownValue", desc := "(J)V" } : Jvm.MethodName) prog_28_method_56_code (3 : Nat) (Option.none : Option Jvm.ClassFile.FieldType)) ∈ lw_all := lw_g (lw_at lw_m8 91 rfl) rfl
theorem q1876 : (Jvm.Cond.instanceMethod ({ cls := "FunDeskModel", name := "knownValue", desc := "(J)V" } : Jvm.MethodName)) ∈ lw_all := lw_g (lw_at lw_m8 90 rfl) rfl
theorem am_mok140 : am_mok 140 := ⟨q1877, q113, rfl, (by decide), ⟨by decide, by decide⟩, (by decide +kernel), fun h => absurd h (by decide), fun _ => q1876, fun h => absurd h (by decide), fun _ => (by decide)⟩
theorem q1882 : (Jvm.Cond.code ({ cls := "FunDeskModel", name := "apply", desc := "()V" } : Jvm.MethodName) prog_28_method_63_code (5 : Nat) (Option.none : Option Jvm.ClassFile.FieldType)) ∈ lw_all := lw_g (lw_at lw_m8 96 rfl) rfl
theorem q1881 : (Jvm.Cond.instanceMethod ({ cls := "FunDeskModel", name := "apply", desc := "()V" } : Jvm.MethodName)) ∈ lw_all := lw_g (lw_at lw_m8 95 rfl) rfl
theorem am_mok141 : am_mok 141 := ⟨q1882, q113, rfl, (by decide), ⟨by decide, by decide⟩, (by decide +kernel), fun h => absurd h (by decide), fun _ => q1881, fun h => absurd h (by decide), fun _ => (by decide)⟩
theorem q1885 : (Jvm.Cond.code ({ cls := "FunDeskModel", name := "kind", desc := "(J)I" } : Jvm.MethodName) prog_28_method_57_code (2 : Nat) (Option.some Jvm.ClassFile.FieldType.int)) ∈ lw_all := lw_g (lw_at lw_m8 99 rfl) rfl
theorem q1884 : (Jvm.Cond.static ({ cls := "FunDeskModel", name := "kind", desc := "(J)I" } : Jvm.MethodName)) ∈ lw_all := lw_g (lw_at lw_m8 98 rfl) rfl
theorem am_mok142 : am_mok 142 := ⟨q1885, q113, rfl, (by decide), ⟨by decide, by decide⟩, (by decide +kernel), fun _ => q1884, fun h => absurd rfl h, fun h => absurd h (by decide), fun _ => (by decide)⟩
theorem q1888 : (Jvm.Cond.code ({ cls := "FunDeskModel", name := "told", desc := "(J)I" } : Jvm.MethodName) prog_28_method_58_code (2 : Nat) (Option.some Jvm.ClassFile.FieldType.int)) ∈ lw_all := lw_g (lw_at lw_m8 102 rfl) rfl
theorem q1887 : (Jvm.Cond.static ({ cls := "FunDeskModel", name := "told", desc := "(J)I" } : Jvm.MethodName)) ∈ lw_all := lw_g (lw_at lw_m8 101 rfl) rfl
theorem am_mok143 : am_mok 143 := ⟨q1888, q113, rfl, (by decide), ⟨by decide, by decide⟩, (by decide +kernel), fun _ => q1887, fun h => absurd rfl h, fun h => absurd h (by decide), fun _ => (by decide)⟩
theorem q1892 : (Jvm.Cond.code ({ cls := "FunDeskModel", name := "knownReal", desc := "(D)V" } : Jvm.MethodName) prog_28_method_60_code (3 : Nat) (Option.none : Option Jvm.ClassFile.FieldType)) ∈ lw_all := lw_g (lw_at lw_m8 106 rfl) rfl
theorem q1891 : (Jvm.Cond.instanceMethod ({ cls := "FunDeskModel", name := "knownReal", desc := "(D)V" } : Jvm.MethodName)) ∈ lw_all := lw_g (lw_at lw_m8 105 rfl) rfl
theorem am_mok144 : am_mok 144 := ⟨q1892, q113, rfl, (by decide), ⟨by decide, by decide⟩, (by decide +kernel), fun h => absurd h (by decide), fun _ => q1891, fun h => absurd h (by decide), fun _ => (by decide)⟩
theorem q1896 : (Jvm.Cond.code ({ cls := "FunDeskModel", name := "realOf", desc := "(J)D" } : Jvm.MethodName) prog_28_method_59_code (3 : Nat) (Option.some Jvm.ClassFile.FieldType.double)) ∈ lw_all := lw_g (lw_at lw_m8 110 rfl) rfl
theorem q1895 : (Jvm.Cond.instanceMethod ({ cls := "FunDeskModel", name := "realOf", desc := "(J)D" } : Jvm.MethodName)) ∈ lw_all := lw_g (lw_at lw_m8 109 rfl) rfl
theorem am_mok145 : am_mok 145 := ⟨q1896, q113, rfl, (by decide), ⟨by decide, by decide⟩, (by decide +kernel), fun h => absurd h (by decide), fun _ => q1895, fun h => absurd h (by decide), fun _ => (by decide)⟩
theorem q1901 : (Jvm.Cond.code ({ cls := "FunDeskModel", name := "worthIs", desc := "(JI)V" } : Jvm.MethodName) prog_28_method_61_code (4 : Nat) (Option.none : Option Jvm.ClassFile.FieldType)) ∈ lw_all := lw_g (lw_at lw_m8 115 rfl) rfl
theorem q1900 : (Jvm.Cond.instanceMethod ({ cls := "FunDeskModel", name := "worthIs", desc := "(JI)V" } : Jvm.MethodName)) ∈ lw_all := lw_g (lw_at lw_m8 114 rfl) rfl
theorem am_mok146 : am_mok 146 := ⟨q1901, q113, rfl, (by decide), ⟨by decide, by decide⟩, (by decide +kernel), fun h => absurd h (by decide), fun _ => q1900, fun h => absurd h (by decide), fun _ => (by decide)⟩
theorem q1905 : (Jvm.Cond.code ({ cls := "FunDeskModel", name := "work", desc := "(I)V" } : Jvm.MethodName) prog_28_method_64_code (6 : Nat) (Option.none : Option Jvm.ClassFile.FieldType)) ∈ lw_all := lw_g (lw_at lw_m8 119 rfl) rfl
theorem q1904 : (Jvm.Cond.instanceMethod ({ cls := "FunDeskModel", name := "work", desc := "(I)V" } : Jvm.MethodName)) ∈ lw_all := lw_g (lw_at lw_m8 118 rfl) rfl
theorem am_mok147 : am_mok 147 := ⟨q1905, q113, rfl, (by decide), ⟨by decide, by decide⟩, (by decide +kernel), fun h => absurd h (by decide), fun _ => q1904, fun h => absurd h (by decide), fun _ => (by decide)⟩
theorem q1909 : (Jvm.Cond.code ({ cls := "FunDeskModel", name := "workReals", desc := "(IDD)V" } : Jvm.MethodName) prog_28_method_66_code (8 : Nat) (Option.none : Option Jvm.ClassFile.FieldType)) ∈ lw_all := lw_g (lw_at lw_m8 123 rfl) rfl
theorem q1908 : (Jvm.Cond.instanceMethod ({ cls := "FunDeskModel", name := "workReals", desc := "(IDD)V" } : Jvm.MethodName)) ∈ lw_all := lw_g (lw_at lw_m8 122 rfl) rfl
theorem am_mok148 : am_mok 148 := ⟨q1909, q113, rfl, (by decide), ⟨by decide, by decide⟩, (by decide +kernel), fun h => absurd h (by decide), fun _ => q1908, fun h => absurd h (by decide), fun _ => (by decide)⟩
theorem q1915 : (Jvm.Cond.code ({ cls := "FunDeskModel", name := "workNumbers", desc := "(III)V" } : Jvm.MethodName) prog_28_method_65_code (4 : Nat) (Option.none : Option Jvm.ClassFile.FieldType)) ∈ lw_all := lw_g (lw_at lw_m8 129 rfl) rfl
theorem q1914 : (Jvm.Cond.instanceMethod ({ cls := "FunDeskModel", name := "workNumbers", desc := "(III)V" } : Jvm.MethodName)) ∈ lw_all := lw_g (lw_at lw_m8 128 rfl) rfl
theorem am_mok149 : am_mok 149 := ⟨q1915, q113, rfl, (by decide), ⟨by decide, by decide⟩, (by decide +kernel), fun h => absurd h (by decide), fun _ => q1914, fun h => absurd h (by decide), fun _ => (by decide)⟩
theorem q1919 : (Jvm.Cond.code ({ cls := "FunDeskModel", name := "bindTop", desc := "(Z)V" } : Jvm.MethodName) prog_28_method_70_code (4 : Nat) (Option.none : Option Jvm.ClassFile.FieldType)) ∈ lw_all := lw_g (lw_at lw_m8 133 rfl) rfl
theorem q1918 : (Jvm.Cond.instanceMethod ({ cls := "FunDeskModel", name := "bindTop", desc := "(Z)V" } : Jvm.MethodName)) ∈ lw_all := lw_g (lw_at lw_m8 132 rfl) rfl
theorem am_mok150 : am_mok 150 := ⟨q1919, q113, rfl, (by decide), ⟨by decide, by decide⟩, (by decide +kernel), fun h => absurd h (by decide), fun _ => q1918, fun h => absurd h (by decide), fun _ => (by decide)⟩
theorem q1924 : (Jvm.Cond.code ({ cls := "FunDeskModel", name := "flow", desc := "(III)V" } : Jvm.MethodName) prog_28_method_71_code (5 : Nat) (Option.none : Option Jvm.ClassFile.FieldType)) ∈ lw_all := lw_g (lw_at lw_m8 138 rfl) rfl
theorem q1923 : (Jvm.Cond.instanceMethod ({ cls := "FunDeskModel", name := "flow", desc := "(III)V" } : Jvm.MethodName)) ∈ lw_all := lw_g (lw_at lw_m8 137 rfl) rfl
theorem am_mok151 : am_mok 151 := ⟨q1924, q113, rfl, (by decide), ⟨by decide, by decide⟩, (by decide +kernel), fun h => absurd h (by decide), fun _ => q1923, fun h => absurd h (by decide), fun _ => (by decide)⟩
theorem q1928 : (Jvm.Cond.code ({ cls := "FunDeskModel", name := "fits", desc := "(II)Z" } : Jvm.MethodName) prog_28_method_67_code (10 : Nat) (Option.some Jvm.ClassFile.FieldType.boolean)) ∈ lw_all := lw_g (lw_at lw_m8 142 rfl) rfl
theorem q1927 : (Jvm.Cond.instanceMethod ({ cls := "FunDeskModel", name := "fits", desc := "(II)Z" } : Jvm.MethodName)) ∈ lw_all := lw_g (lw_at lw_m8 141 rfl) rfl
theorem am_mok152 : am_mok 152 := ⟨q1928, q113, rfl, (by decide), ⟨by decide, by decide⟩, (by decide +kernel), fun h => absurd h (by decide), fun _ => q1927, fun h => absurd h (by decide), fun _ => (by decide)⟩
theorem q1932 : (Jvm.Cond.code ({ cls := "FunDeskModel", name := "state", desc := "(I)I" } : Jvm.MethodName) prog_28_method_77_code (2 : Nat) (Option.some Jvm.ClassFile.FieldType.int)) ∈ lw_all := lw_g (lw_at lw_m8 146 rfl) rfl
theorem q1930 : (Jvm.Cond.instanceMethod ({ cls := "FunDeskModel", name := "state", desc := "(I)I" } : Jvm.MethodName)) ∈ lw_all := lw_g (lw_at lw_m8 144 rfl) rfl
theorem am_mok153 : am_mok 153 := ⟨q1932, q113, rfl, (by decide), ⟨by decide, by decide⟩, (by decide +kernel), fun h => absurd h (by decide), fun _ => q1930, fun h => absurd h (by decide), fun _ => (by decide)⟩
theorem q1936 : (Jvm.Cond.code ({ cls := "FunDeskModel", name := "value", desc := "(I)I" } : Jvm.MethodName) prog_28_method_79_code (3 : Nat) (Option.some Jvm.ClassFile.FieldType.int)) ∈ lw_all := lw_g (lw_at lw_m8 150 rfl) rfl
theorem q1934 : (Jvm.Cond.instanceMethod ({ cls := "FunDeskModel", name := "value", desc := "(I)I" } : Jvm.MethodName)) ∈ lw_all := lw_g (lw_at lw_m8 148 rfl) rfl
theorem am_mok154 : am_mok 154 := ⟨q1936, q113, rfl, (by decide), ⟨by decide, by decide⟩, (by decide +kernel), fun h => absurd h (by decide), fun _ => q1934, fun h => absurd h (by decide), fun _ => (by decide)⟩
theorem q1940 : (Jvm.Cond.code ({ cls := "FunDeskModel", name := "items", desc := "(J)I" } : Jvm.MethodName) prog_28_method_78_code (6 : Nat) (Option.some Jvm.ClassFile.FieldType.int)) ∈ lw_all := lw_g (lw_at lw_m8 154 rfl) rfl
theorem q1939 : (Jvm.Cond.instanceMethod ({ cls := "FunDeskModel", name := "items", desc := "(J)I" } : Jvm.MethodName)) ∈ lw_all := lw_g (lw_at lw_m8 153 rfl) rfl
theorem am_mok155 : am_mok 155 := ⟨q1940, q113, rfl, (by decide), ⟨by decide, by decide⟩, (by decide +kernel), fun h => absurd h (by decide), fun _ => q1939, fun h => absurd h (by decide), fun _ => (by decide)⟩
theorem q1944 : (Jvm.Cond.code ({ cls := "FunDeskModel", name := "real", desc := "()D" } : Jvm.MethodName) prog_28_method_80_code (1 : Nat) (Option.some Jvm.ClassFile.FieldType.double)) ∈ lw_all := lw_g (lw_at lw_m8 158 rfl) rfl
theorem q1942 : (Jvm.Cond.instanceMethod ({ cls := "FunDeskModel", name := "real", desc := "()D" } : Jvm.MethodName)) ∈ lw_all := lw_g (lw_at lw_m8 156 rfl) rfl
theorem am_mok156 : am_mok 156 := ⟨q1944, q113, rfl, (by decide), ⟨by decide, by decide⟩, (by decide +kernel), fun h => absurd h (by decide), fun _ => q1942, fun h => absurd h (by decide), fun _ => (by decide)⟩
theorem q1948 : (Jvm.Cond.code ({ cls := "FunDeskModel", name := "item", desc := "(I)V" } : Jvm.MethodName) prog_28_method_81_code (5 : Nat) (Option.none : Option Jvm.ClassFile.FieldType)) ∈ lw_all := lw_g (lw_at lw_m8 162 rfl) rfl
theorem q1946 : (Jvm.Cond.instanceMethod ({ cls := "FunDeskModel", name := "item", desc := "(I)V" } : Jvm.MethodName)) ∈ lw_all := lw_g (lw_at lw_m8 160 rfl) rfl
theorem am_mok157 : am_mok 157 := ⟨q1948, q113, rfl, (by decide), ⟨by decide, by decide⟩, (by decide +kernel), fun h => absurd h (by decide), fun _ => q1946, fun h => absurd h (by decide), fun _ => (by decide)⟩
theorem q1952 : (Jvm.Cond.code ({ cls := "FunDeskModel", name := "top", desc := "()V" } : Jvm.MethodName) prog_28_method_82_code (1 : Nat) (Option.none : Option Jvm.ClassFile.FieldType)) ∈ lw_all := lw_g (lw_at lw_m8 166 rfl) rfl
theorem q1950 : (Jvm.Cond.instanceMethod ({ cls := "FunDeskModel", name := "top", desc := "()V" } : Jvm.MethodName)) ∈ lw_all := lw_g (lw_at lw_m8 164 rfl) rfl
theorem am_mok158 : am_mok 158 := ⟨q1952, q113, rfl, (by decide), ⟨by decide, by decide⟩, (by decide +kernel), fun h => absurd h (by decide), fun _ => q1950, fun h => absurd h (by decide), fun _ => (by decide)⟩
theorem q715 : (Jvm.Cond.code ({ cls := "FunDesk$Plain", name := "<init>", desc := "(LFunDesk$Op;ILFunDesk$Sort;)V" } : Jvm.MethodName) prog_20_method_1_code (4 : Nat) (Option.none : Option Jvm.ClassFile.FieldType)) ∈ lw_all := lw_g (lw_at lw_m3 129 rfl) rfl
theorem q714 : (Jvm.Cond.instanceMethod ({ cls := "FunDesk$Plain", name := "<init>", desc := "(LFunDesk$Op;ILFunDesk$Sort;)V" } : Jvm.MethodName)) ∈ lw_all := lw_g (lw_at lw_m3 128 rfl) rfl
theorem am_mok159 : am_mok 159 := ⟨q715, q118, rfl, (by decide), ⟨by decide, by decide⟩, (by decide +kernel), fun h => absurd h (by decide), fun _ => q714, fun _ => ⟨rfl, rfl, rfl⟩, fun h => absurd rfl h⟩
theorem q1028 : (Jvm.Cond.code ({ cls := "FunDesk$Plain", name := "look", desc := "(LFunDesk$Scope;)V" } : Jvm.MethodName) prog_20_method_2_code (2 : Nat) (Option.none : Option Jvm.ClassFile.FieldType)) ∈ lw_all := lw_g (lw_at lw_m4 202 rfl) rfl
theorem q1026 : (Jvm.Cond.instanceMethod ({ cls := "FunDesk$Plain", name := "look", desc := "(LFunDesk$Scope;)V" } : Jvm.MethodName)) ∈ lw_all := lw_g (lw_at lw_m4 200 rfl) rfl
theorem am_mok160 : am_mok 160 := ⟨q1028, q118, rfl, (by decide), ⟨by decide, by decide⟩, (by decide +kernel), fun h => absurd h (by decide), fun _ => q1026, fun h => absurd h (by decide), fun _ => (by decide)⟩
theorem q1216 : (Jvm.Cond.code ({ cls := "FunDesk$Plain", name := "infer", desc := "(LFunDesk;LFunDesk$Scope;)LFunDesk$Type;" } : Jvm.MethodName) prog_20_method_3_code (3 : Nat) (Option.some (Jvm.ClassFile.FieldType.object "FunDesk$Type"))) ∈ lw_all := lw_g (lw_at lw_m5 150 rfl) rfl
theorem q1214 : (Jvm.Cond.instanceMethod ({ cls := "FunDesk$Plain", name := "infer", desc := "(LFunDesk;LFunDesk$Scope;)LFunDesk$Type;" } : Jvm.MethodName)) ∈ lw_all := lw_g (lw_at lw_m5 148 rfl) rfl
theorem am_mok161 : am_mok 161 := ⟨q1216, q118, rfl, (by decide), ⟨by decide, by decide⟩, (by decide +kernel), fun h => absurd h (by decide), fun _ => q1214, fun h => absurd h (by decide), fun _ => (by decide)⟩
theorem q1293 : (Jvm.Cond.code ({ cls := "FunDesk$Plain", name := "compile", desc := "(LFunDesk;LFunDesk$Scope;)V" } : Jvm.MethodName) prog_20_method_4_code (4 : Nat) (Option.none : Option Jvm.ClassFile.FieldType)) ∈ lw_all := lw_g (lw_at lw_m5 227 rfl) rfl
theorem q1291 : (Jvm.Cond.instanceMethod ({ cls := "FunDesk$Plain", name := "compile", desc := "(LFunDesk;LFunDesk$Scope;)V" } : Jvm.MethodName)) ∈ lw_all := lw_g (lw_at lw_m5 225 rfl) rfl
theorem am_mok162 : am_mok 162 := ⟨q1293, q118, rfl, (by decide), ⟨by decide, by decide⟩, (by decide +kernel), fun h => absurd h (by decide), fun _ => q1291, fun h => absurd h (by decide), fun _ => (by decide)⟩
theorem q743 : (Jvm.Cond.code ({ cls := "FunDesk$Operation", name := "<init>", desc := "(ILFunDesk$Expr;LFunDesk$Expr;)V" } : Jvm.MethodName) prog_18_method_1_code (4 : Nat) (Option.none : Option Jvm.ClassFile.FieldType)) ∈ lw_all := lw_g (lw_at lw_m3 157 rfl) rfl
theorem q742 : (Jvm.Cond.instanceMethod ({ cls := "FunDesk$Operation", name := "<init>", desc := "(ILFunDesk$Expr;LFunDesk$Expr;)V" } : Jvm.MethodName)) ∈ lw_all := lw_g (lw_at lw_m3 156 rfl) rfl
theorem am_mok163 : am_mok 163 := ⟨q743, q120, rfl, (by decide), ⟨by decide, by decide⟩, (by decide +kernel), fun h => absurd h (by decide), fun _ => q742, fun _ => ⟨rfl, rfl, rfl⟩, fun h => absurd rfl h⟩
theorem q1020 : (Jvm.Cond.code ({ cls := "FunDesk$Operation", name := "look", desc := "(LFunDesk$Scope;)V" } : Jvm.MethodName) prog_18_method_2_code (2 : Nat) (Option.none : Option Jvm.ClassFile.FieldType)) ∈ lw_all := lw_g (lw_at lw_m4 194 rfl) rfl
theorem q1018 : (Jvm.Cond.instanceMethod ({ cls := "FunDesk$Operation", name := "look", desc := "(LFunDesk$Scope;)V" } : Jvm.MethodName)) ∈ lw_all := lw_g (lw_at lw_m4 192 rfl) rfl
theorem am_mok164 : am_mok 164 := ⟨q1020, q120, rfl, (by decide), ⟨by decide, by decide⟩, (by decide +kernel), fun h => absurd h (by decide), fun _ => q1018, fun h => absurd h (by decide), fun _ => (by decide)⟩
theorem q1206 : (Jvm.Cond.code ({ cls := "FunDesk$Operation", name := "infer", desc := "(LFunDesk;LFunDesk$Scope;)LFunDesk$Type;" } : Jvm.MethodName) prog_18_method_3_code (5 : Nat) (Option.some (Jvm.ClassFile.FieldType.object "FunDesk$Type"))) ∈ lw_all := lw_g (lw_at lw_m5 140 rfl) rfl
theorem q1204 : (Jvm.Cond.instanceMethod ({ cls := "FunDesk$Operation", name := "infer", desc := "(LFunDesk;LFunDesk$Scope;)LFunDesk$Type;" } : Jvm.MethodName)) ∈ lw_all := lw_g (lw_at lw_m5 138 rfl) rfl
theorem am_mok165 : am_mok 165 := ⟨q1206, q120, rfl, (by decide), ⟨by decide, by decide⟩, (by decide +kernel), fun h => absurd h (by decide), fun _ => q1204, fun h => absurd h (by decide), fun _ => (by decide)⟩
theorem q1286 : (Jvm.Cond.code ({ cls := "FunDesk$Operation", name := "compile", desc := "(LFunDesk;LFunDesk$Scope;)V" } : Jvm.MethodName) prog_18_method_4_code (4 : Nat) (Option.none : Option Jvm.ClassFile.FieldType)) ∈ lw_all := lw_g (lw_at lw_m5 220 rfl) rfl
theorem q1284 : (Jvm.Cond.instanceMethod ({ cls := "FunDesk$Operation", name := "compile", desc := "(LFunDesk;LFunDesk$Scope;)V" } : Jvm.MethodName)) ∈ lw_all := lw_g (lw_at lw_m5 218 rfl) rfl
theorem am_mok166 : am_mok 166 := ⟨q1286, q120, rfl, (by decide), ⟨by decide, by decide⟩, (by decide +kernel), fun h => absurd h (by decide), fun _ => q1284, fun h => absurd h (by decide), fun _ => (by decide)⟩
theorem q766 : (Jvm.Cond.code ({ cls := "FunDesk$Name", name := "<init>", desc := "(C)V" } : Jvm.MethodName) prog_15_method_1_code (2 : Nat) (Option.none : Option Jvm.ClassFile.FieldType)) ∈ lw_all := lw_g (lw_at lw_m3 180 rfl) rfl
theorem q765 : (Jvm.Cond.instanceMethod ({ cls := "FunDesk$Name", name := "<init>", desc := "(C)V" } : Jvm.MethodName)) ∈ lw_all := lw_g (lw_at lw_m3 179 rfl) rfl
theorem am_mok167 : am_mok 167 := ⟨q766, q121, rfl, (by decide), ⟨by decide, by decide⟩, (by decide +kernel), fun h => absurd h (by decide), fun _ => q765, fun _ => ⟨rfl, rfl, rfl⟩, fun h => absurd rfl h⟩
theorem q989 : (Jvm.Cond.code ({ cls := "FunDesk$Name", name := "look", desc := "(LFunDesk$Scope;)V" } : Jvm.MethodName) prog_15_method_2_code (3 : Nat) (Option.none : Option Jvm.ClassFile.FieldType)) ∈ lw_all := lw_g (lw_at lw_m4 163 rfl) rfl
theorem q987 : (Jvm.Cond.instanceMethod ({ cls := "FunDesk$Name", name := "look", desc := "(LFunDesk$Scope;)V" } : Jvm.MethodName)) ∈ lw_all := lw_g (lw_at lw_m4 161 rfl) rfl
theorem am_mok168 : am_mok 168 := ⟨q989, q121, rfl, (by decide), ⟨by decide, by decide⟩, (by decide +kernel), fun h => absurd h (by decide), fun _ => q987, fun h => absurd h (by decide), fun _ => (by decide)⟩
theorem q1188 : (Jvm.Cond.code ({ cls := "FunDesk$Name", name := "infer", desc := "(LFunDesk;LFunDesk$Scope;)LFunDesk$Type;" } : Jvm.MethodName) prog_15_method_3_code (4 : Nat) (Option.some (Jvm.ClassFile.FieldType.object "FunDesk$Type"))) ∈ lw_all := lw_g (lw_at lw_m5 122 rfl) rfl
theorem q1186 : (Jvm.Cond.instanceMethod ({ cls := "FunDesk$Name", name := "infer", desc := "(LFunDesk;LFunDesk$Scope;)LFunDesk$Type;" } : Jvm.MethodName)) ∈ lw_all := lw_g (lw_at lw_m5 120 rfl) rfl
theorem am_mok169 : am_mok 169 := ⟨q1188, q121, rfl, (by decide), ⟨by decide, by decide⟩, (by decide +kernel), fun h => absurd h (by decide), fun _ => q1186, fun h => absurd h (by decide), fun _ => (by decide)⟩
theorem q1275 : (Jvm.Cond.code ({ cls := "FunDesk$Name", name := "compile", desc := "(LFunDesk;LFunDesk$Scope;)V" } : Jvm.MethodName) prog_15_method_4_code (4 : Nat) (Option.none : Option Jvm.ClassFile.FieldType)) ∈ lw_all := lw_g (lw_at lw_m5 209 rfl) rfl
theorem q1273 : (Jvm.Cond.instanceMethod ({ cls := "FunDesk$Name", name := "compile", desc := "(LFunDesk;LFunDesk$Scope;)V" } : Jvm.MethodName)) ∈ lw_all := lw_g (lw_at lw_m5 207 rfl) rfl
theorem am_mok170 : am_mok 170 := ⟨q1275, q121, rfl, (by decide), ⟨by decide, by decide⟩, (by decide +kernel), fun h => absurd h (by decide), fun _ => q1273, fun h => absurd h (by decide), fun _ => (by decide)⟩
theorem q776 : (Jvm.Cond.code ({ cls := "FunDesk$Applied", name := "<init>", desc := "(LFunDesk$Expr;LFunDesk$Expr;)V" } : Jvm.MethodName) prog_3_method_1_code (3 : Nat) (Option.none : Option Jvm.ClassFile.FieldType)) ∈ lw_all := lw_g (lw_at lw_m3 190 rfl) rfl
theorem q775 : (Jvm.Cond.instanceMethod ({ cls := "FunDesk$Applied", name := "<init>", desc := "(LFunDesk$Expr;LFunDesk$Expr;)V" } : Jvm.MethodName)) ∈ lw_all := lw_g (lw_at lw_m3 189 rfl) rfl
theorem am_mok171 : am_mok 171 := ⟨q776, q122, rfl, (by decide), ⟨by decide, by decide⟩, (by decide +kernel), fun h => absurd h (by decide), fun _ => q775, fun _ => ⟨rfl, rfl, rfl⟩, fun h => absurd rfl h⟩
theorem q931 : (Jvm.Cond.code ({ cls := "FunDesk$Applied", name := "look", desc := "(LFunDesk$Scope;)V" } : Jvm.MethodName) prog_3_method_2_code (2 : Nat) (Option.none : Option Jvm.ClassFile.FieldType)) ∈ lw_all := lw_g (lw_at lw_m4 105 rfl) rfl
theorem q929 : (Jvm.Cond.instanceMethod ({ cls := "FunDesk$Applied", name := "look", desc := "(LFunDesk$Scope;)V" } : Jvm.MethodName)) ∈ lw_all := lw_g (lw_at lw_m4 103 rfl) rfl
theorem am_mok172 : am_mok 172 := ⟨q931, q122, rfl, (by decide), ⟨by decide, by decide⟩, (by decide +kernel), fun h => absurd h (by decide), fun _ => q929, fun h => absurd h (by decide), fun _ => (by decide)⟩
theorem q1063 : (Jvm.Cond.code ({ cls := "FunDesk$Applied", name := "infer", desc := "(LFunDesk;LFunDesk$Scope;)LFunDesk$Type;" } : Jvm.MethodName) prog_3_method_3_code (5 : Nat) (Option.some (Jvm.ClassFile.FieldType.object "FunDesk$Type"))) ∈ lw_all := lw_g (lw_at lw_m4 237 rfl) rfl
theorem q1061 : (Jvm.Cond.instanceMethod ({ cls := "FunDesk$Applied", name := "infer", desc := "(LFunDesk;LFunDesk$Scope;)LFunDesk$Type;" } : Jvm.MethodName)) ∈ lw_all := lw_g (lw_at lw_m4 235 rfl) rfl
theorem am_mok173 : am_mok 173 := ⟨q1063, q122, rfl, (by decide), ⟨by decide, by decide⟩, (by decide +kernel), fun h => absurd h (by decide), fun _ => q1061, fun h => absurd h (by decide), fun _ => (by decide)⟩
theorem q1234 : (Jvm.Cond.code ({ cls := "FunDesk$Applied", name := "compile", desc := "(LFunDesk;LFunDesk$Scope;)V" } : Jvm.MethodName) prog_3_method_4_code (4 : Nat) (Option.none : Option Jvm.ClassFile.FieldType)) ∈ lw_all := lw_g (lw_at lw_m5 168 rfl) rfl
theorem q1232 : (Jvm.Cond.instanceMethod ({ cls := "FunDesk$Applied", name := "compile", desc := "(LFunDesk;LFunDesk$Scope;)V" } : Jvm.MethodName)) ∈ lw_all := lw_g (lw_at lw_m5 166 rfl) rfl
theorem am_mok174 : am_mok 174 := ⟨q1234, q122, rfl, (by decide), ⟨by decide, by decide⟩, (by decide +kernel), fun h => absurd h (by decide), fun _ => q1232, fun h => absurd h (by decide), fun _ => (by decide)⟩
theorem q797 : (Jvm.Cond.code ({ cls := "FunDesk$If", name := "<init>", desc := "(LFunDesk$Expr;LFunDesk$Expr;LFunDesk$Expr;)V" } : Jvm.MethodName) prog_13_method_1_code (4 : Nat) (Option.none : Option Jvm.ClassFile.FieldType)) ∈ lw_all := lw_g (lw_at lw_m3 211 rfl) rfl
theorem q796 : (Jvm.Cond.instanceMethod ({ cls := "FunDesk$If", name := "<init>", desc := "(LFunDesk$Expr;LFunDesk$Expr;LFunDesk$Expr;)V" } : Jvm.MethodName)) ∈ lw_all := lw_g (lw_at lw_m3 210 rfl) rfl
theorem am_mok175 : am_mok 175 := ⟨q797, q123, rfl, (by decide), ⟨by decide, by decide⟩, (by decide +kernel), fun h => absurd h (by decide), fun _ => q796, fun _ => ⟨rfl, rfl, rfl⟩, fun h => absurd rfl h⟩
theorem q971 : (Jvm.Cond.code ({ cls := "FunDesk$If", name := "look", desc := "(LFunDesk$Scope;)V" } : Jvm.MethodName) prog_13_method_2_code (2 : Nat) (Option.none : Option Jvm.ClassFile.FieldType)) ∈ lw_all := lw_g (lw_at lw_m4 145 rfl) rfl
theorem q969 : (Jvm.Cond.instanceMethod ({ cls := "FunDesk$If", name := "look", desc := "(LFunDesk$Scope;)V" } : Jvm.MethodName)) ∈ lw_all := lw_g (lw_at lw_m4 143 rfl) rfl
theorem am_mok176 : am_mok 176 := ⟨q971, q123, rfl, (by decide), ⟨by decide, by decide⟩, (by decide +kernel), fun h => absurd h (by decide), fun _ => q969, fun h => absurd h (by decide), fun _ => (by decide)⟩
theorem q1168 : (Jvm.Cond.code ({ cls := "FunDesk$If", name := "infer", desc := "(LFunDesk;LFunDesk$Scope;)LFunDesk$Type;" } : Jvm.MethodName) prog_13_method_3_code (4 : Nat) (Option.some (Jvm.ClassFile.FieldType.object "FunDesk$Type"))) ∈ lw_all := lw_g (lw_at lw_m5 102 rfl) rfl
theorem q1166 : (Jvm.Cond.instanceMethod ({ cls := "FunDesk$If", name := "infer", desc := "(LFunDesk;LFunDesk$Scope;)LFunDesk$Type;" } : Jvm.MethodName)) ∈ lw_all := lw_g (lw_at lw_m5 100 rfl) rfl
theorem am_mok177 : am_mok 177 := ⟨q1168, q123, rfl, (by decide), ⟨by decide, by decide⟩, (by decide +kernel), fun h => absurd h (by decide), fun _ => q1166, fun h => absurd h (by decide), fun _ => (by decide)⟩
theorem q1261 : (Jvm.Cond.code ({ cls := "FunDesk$If", name := "compile", desc := "(LFunDesk;LFunDesk$Scope;)V" } : Jvm.MethodName) prog_13_method_4_code (5 : Nat) (Option.none : Option Jvm.ClassFile.FieldType)) ∈ lw_all := lw_g (lw_at lw_m5 195 rfl) rfl
theorem q1259 : (Jvm.Cond.instanceMethod ({ cls := "FunDesk$If", name := "compile", desc := "(LFunDesk;LFunDesk$Scope;)V" } : Jvm.MethodName)) ∈ lw_all := lw_g (lw_at lw_m5 193 rfl) rfl
theorem am_mok178 : am_mok 178 := ⟨q1261, q123, rfl, (by decide), ⟨by decide, by decide⟩, (by decide +kernel), fun h => absurd h (by decide), fun _ => q1259, fun h => absurd h (by decide), fun _ => (by decide)⟩
theorem q817 : (Jvm.Cond.code ({ cls := "FunDesk$Case", name := "<init>", desc := "(LFunDesk$Expr;)V" } : Jvm.MethodName) prog_7_method_1_code (2 : Nat) (Option.none : Option Jvm.ClassFile.FieldType)) ∈ lw_all := lw_g (lw_at lw_m3 231 rfl) rfl
theorem q816 : (Jvm.Cond.instanceMethod ({ cls := "FunDesk$Case", name := "<init>", desc := "(LFunDesk$Expr;)V" } : Jvm.MethodName)) ∈ lw_all := lw_g (lw_at lw_m3 230 rfl) rfl
theorem am_mok179 : am_mok 179 := ⟨q817, q124, rfl, (by decide), ⟨by decide, by decide⟩, (by decide +kernel), fun h => absurd h (by decide), fun _ => q816, fun _ => ⟨rfl, rfl, rfl⟩, fun h => absurd rfl h⟩
theorem q939 : (Jvm.Cond.code ({ cls := "FunDesk$Case", name := "look", desc := "(LFunDesk$Scope;)V" } : Jvm.MethodName) prog_7_method_2_code (3 : Nat) (Option.none : Option Jvm.ClassFile.FieldType)) ∈ lw_all := lw_g (lw_at lw_m4 113 rfl) rfl
theorem q937 : (Jvm.Cond.instanceMethod ({ cls := "FunDesk$Case", name := "look", desc := "(LFunDesk$Scope;)V" } : Jvm.MethodName)) ∈ lw_all := lw_g (lw_at lw_m4 111 rfl) rfl
theorem am_mok180 : am_mok 180 := ⟨q939, q124, rfl, (by decide), ⟨by decide, by decide⟩, (by decide +kernel), fun h => absurd h (by decide), fun _ => q937, fun h => absurd h (by decide), fun _ => (by decide)⟩
theorem q1113 : (Jvm.Cond.code ({ cls := "FunDesk$Case", name := "infer", desc := "(LFunDesk;LFunDesk$Scope;)LFunDesk$Type;" } : Jvm.MethodName) prog_7_method_3_code (6 : Nat) (Option.some (Jvm.ClassFile.FieldType.object "FunDesk$Type"))) ∈ lw_all := lw_g (lw_at lw_m5 47 rfl) rfl
theorem q1111 : (Jvm.Cond.instanceMethod ({ cls := "FunDesk$Case", name := "infer", desc := "(LFunDesk;LFunDesk$Scope;)LFunDesk$Type;" } : Jvm.MethodName)) ∈ lw_all := lw_g (lw_at lw_m5 45 rfl) rfl
theorem am_mok181 : am_mok 181 := ⟨q1113, q124, rfl, (by decide), ⟨by decide, by decide⟩, (by decide +kernel), fun h => absurd h (by decide), fun _ => q1111, fun h => absurd h (by decide), fun _ => (by decide)⟩
theorem q1241 : (Jvm.Cond.code ({ cls := "FunDesk$Case", name := "compile", desc := "(LFunDesk;LFunDesk$Scope;)V" } : Jvm.MethodName) prog_7_method_4_code (10 : Nat) (Option.none : Option Jvm.ClassFile.FieldType)) ∈ lw_all := lw_g (lw_at lw_m5 175 rfl) rfl
theorem q1239 : (Jvm.Cond.instanceMethod ({ cls := "FunDesk$Case", name := "compile", desc := "(LFunDesk;LFunDesk$Scope;)V" } : Jvm.MethodName)) ∈ lw_all := lw_g (lw_at lw_m5 173 rfl) rfl
theorem am_mok182 : am_mok 182 := ⟨q1241, q124, rfl, (by decide), ⟨by decide, by decide⟩, (by decide +kernel), fun h => absurd h (by decide), fun _ => q1239, fun h => absurd h (by decide), fun _ => (by decide)⟩
theorem q553 : (Jvm.Cond.code ({ cls := "FunDesk$Same", name := "fits", desc := "(LFunDesk;LFunDesk$Value;)Z" } : Jvm.MethodName) prog_21_method_4_code (3 : Nat) (Option.some Jvm.ClassFile.FieldType.boolean)) ∈ lw_all := lw_g (lw_at lw_m2 207 rfl) rfl
theorem q551 : (Jvm.Cond.instanceMethod ({ cls := "FunDesk$Same", name := "fits", desc := "(LFunDesk;LFunDesk$Value;)Z" } : Jvm.MethodName)) ∈ lw_all := lw_g (lw_at lw_m2 205 rfl) rfl
theorem am_mok183 : am_mok 183 := ⟨q553, q125, rfl, (by decide), ⟨by decide, by decide⟩, (by decide +kernel), fun h => absurd h (by decide), fun _ => q551, fun h => absurd h (by decide), fun _ => (by decide)⟩
theorem q850 : (Jvm.Cond.code ({ cls := "FunDesk$Same", name := "<init>", desc := "(LFunDesk$Sort;I)V" } : Jvm.MethodName) prog_21_method_1_code (3 : Nat) (Option.none : Option Jvm.ClassFile.FieldType)) ∈ lw_all := lw_g (lw_at lw_m4 24 rfl) rfl
theorem q849 : (Jvm.Cond.instanceMethod ({ cls := "FunDesk$Same", name := "<init>", desc := "(LFunDesk$Sort;I)V" } : Jvm.MethodName)) ∈ lw_all := lw_g (lw_at lw_m4 23 rfl) rfl
theorem am_mok184 : am_mok 184 := ⟨q850, q125, rfl, (by decide), ⟨by decide, by decide⟩, (by decide +kernel), fun h => absurd h (by decide), fun _ => q849, fun _ => ⟨rfl, rfl, rfl⟩, fun h => absurd rfl h⟩
theorem q1051 : (Jvm.Cond.code ({ cls := "FunDesk$Same", name := "names", desc := "(LFunDesk$Scope;)LFunDesk$Scope;" } : Jvm.MethodName) prog_21_method_2_code (2 : Nat) (Option.some (Jvm.ClassFile.FieldType.object "FunDesk$Scope"))) ∈ lw_all := lw_g (lw_at lw_m4 225 rfl) rfl
theorem q1049 : (Jvm.Cond.instanceMethod ({ cls := "FunDesk$Same", name := "names", desc := "(LFunDesk$Scope;)LFunDesk$Scope;" } : Jvm.MethodName)) ∈ lw_all := lw_g (lw_at lw_m4 223 rfl) rfl
theorem am_mok185 : am_mok 185 := ⟨q1051, q125, rfl, (by decide), ⟨by decide, by decide⟩, (by decide +kernel), fun h => absurd h (by decide), fun _ => q1049, fun h => absurd h (by decide), fun _ => (by decide)⟩
theorem q1143 : (Jvm.Cond.code ({ cls := "FunDesk$Same", name := "infer", desc := "(LFunDesk;)LFunDesk$Type;" } : Jvm.MethodName) prog_21_method_3_code (2 : Nat) (Option.some (Jvm.ClassFile.FieldType.object "FunDesk$Type"))) ∈ lw_all := lw_g (lw_at lw_m5 77 rfl) rfl
theorem q1141 : (Jvm.Cond.instanceMethod ({ cls := "FunDesk$Same", name := "infer", desc := "(LFunDesk;)LFunDesk$Type;" } : Jvm.MethodName)) ∈ lw_all := lw_g (lw_at lw_m5 75 rfl) rfl
theorem am_mok186 : am_mok 186 := ⟨q1143, q125, rfl, (by decide), ⟨by decide, by decide⟩, (by decide +kernel), fun h => absurd h (by decide), fun _ => q1141, fun h => absurd h (by decide), fun _ => (by decide)⟩
theorem q532 : (Jvm.Cond.code ({ cls := "FunDesk$Any", name := "fits", desc := "(LFunDesk;LFunDesk$Value;)Z" } : Jvm.MethodName) prog_2_method_4_code (3 : Nat) (Option.some Jvm.ClassFile.FieldType.boolean)) ∈ lw_all := lw_g (lw_at lw_m2 186 rfl) rfl
theorem q530 : (Jvm.Cond.instanceMethod ({ cls := "FunDesk$Any", name := "fits", desc := "(LFunDesk;LFunDesk$Value;)Z" } : Jvm.MethodName)) ∈ lw_all := lw_g (lw_at lw_m2 184 rfl) rfl
theorem am_mok187 : am_mok 187 := ⟨q532, q126, rfl, (by decide), ⟨by decide, by decide⟩, (by decide +kernel), fun h => absurd h (by decide), fun _ => q530, fun h => absurd h (by decide), fun _ => (by decide)⟩
theorem q863 : (Jvm.Cond.code ({ cls := "FunDesk$Any", name := "<init>", desc := "(C)V" } : Jvm.MethodName) prog_2_method_1_code (2 : Nat) (Option.none : Option Jvm.ClassFile.FieldType)) ∈ lw_all := lw_g (lw_at lw_m4 37 rfl) rfl
theorem q862 : (Jvm.Cond.instanceMethod ({ cls := "FunDesk$Any", name := "<init>", desc := "(C)V" } : Jvm.MethodName)) ∈ lw_all := lw_g (lw_at lw_m4 36 rfl) rfl
theorem am_mok188 : am_mok 188 := ⟨q863, q126, rfl, (by decide), ⟨by decide, by decide⟩, (by decide +kernel), fun h => absurd h (by decide), fun _ => q862, fun _ => ⟨rfl, rfl, rfl⟩, fun h => absurd rfl h⟩
theorem q1037 : (Jvm.Cond.code ({ cls := "FunDesk$Any", name := "names", desc := "(LFunDesk$Scope;)LFunDesk$Scope;" } : Jvm.MethodName) prog_2_method_2_code (2 : Nat) (Option.some (Jvm.ClassFile.FieldType.object "FunDesk$Scope"))) ∈ lw_all := lw_g (lw_at lw_m4 211 rfl) rfl
theorem q1035 : (Jvm.Cond.instanceMethod ({ cls := "FunDesk$Any", name := "names", desc := "(LFunDesk$Scope;)LFunDesk$Scope;" } : Jvm.MethodName)) ∈ lw_all := lw_g (lw_at lw_m4 209 rfl) rfl
theorem am_mok189 : am_mok 189 := ⟨q1037, q126, rfl, (by decide), ⟨by decide, by decide⟩, (by decide +kernel), fun h => absurd h (by decide), fun _ => q1035, fun h => absurd h (by decide), fun _ => (by decide)⟩
theorem q1127 : (Jvm.Cond.code ({ cls := "FunDesk$Any", name := "infer", desc := "(LFunDesk;)LFunDesk$Type;" } : Jvm.MethodName) prog_2_method_3_code (3 : Nat) (Option.some (Jvm.ClassFile.FieldType.object "FunDesk$Type"))) ∈ lw_all := lw_g (lw_at lw_m5 61 rfl) rfl
theorem q1125 : (Jvm.Cond.instanceMethod ({ cls := "FunDesk$Any", name := "infer", desc := "(LFunDesk;)LFunDesk$Type;" } : Jvm.MethodName)) ∈ lw_all := lw_g (lw_at lw_m5 59 rfl) rfl
theorem am_mok190 : am_mok 190 := ⟨q1127, q126, rfl, (by decide), ⟨by decide, by decide⟩, (by decide +kernel), fun h => absurd h (by decide), fun _ => q1125, fun h => absurd h (by decide), fun _ => (by decide)⟩
theorem q540 : (Jvm.Cond.code ({ cls := "FunDesk$Both", name := "fits", desc := "(LFunDesk;LFunDesk$Value;)Z" } : Jvm.MethodName) prog_4_method_4_code (4 : Nat) (Option.some Jvm.ClassFile.FieldType.boolean)) ∈ lw_all := lw_g (lw_at lw_m2 194 rfl) rfl
theorem q538 : (Jvm.Cond.instanceMethod ({ cls := "FunDesk$Both", name := "fits", desc := "(LFunDesk;LFunDesk$Value;)Z" } : Jvm.MethodName)) ∈ lw_all := lw_g (lw_at lw_m2 192 rfl) rfl
theorem am_mok191 : am_mok 191 := ⟨q540, q127, rfl, (by decide), ⟨by decide, by decide⟩, (by decide +kernel), fun h => absurd h (by decide), fun _ => q538, fun h => absurd h (by decide), fun _ => (by decide)⟩
theorem q877 : (Jvm.Cond.code ({ cls := "FunDesk$Both", name := "<init>", desc := "(LFunDesk$Pattern;LFunDesk$Pattern;)V" } : Jvm.MethodName) prog_4_method_1_code (3 : Nat) (Option.none : Option Jvm.ClassFile.FieldType)) ∈ lw_all := lw_g (lw_at lw_m4 51 rfl) rfl
theorem q876 : (Jvm.Cond.instanceMethod ({ cls := "FunDesk$Both", name := "<init>", desc := "(LFunDesk$Pattern;LFunDesk$Pattern;)V" } : Jvm.MethodName)) ∈ lw_all := lw_g (lw_at lw_m4 50 rfl) rfl
theorem am_mok192 : am_mok 192 := ⟨q877, q127, rfl, (by decide), ⟨by decide, by decide⟩, (by decide +kernel), fun h => absurd h (by decide), fun _ => q876, fun _ => ⟨rfl, rfl, rfl⟩, fun h => absurd rfl h⟩
theorem q1044 : (Jvm.Cond.code ({ cls := "FunDesk$Both", name := "names", desc := "(LFunDesk$Scope;)LFunDesk$Scope;" } : Jvm.MethodName) prog_4_method_2_code (2 : Nat) (Option.some (Jvm.ClassFile.FieldType.object "FunDesk$Scope"))) ∈ lw_all := lw_g (lw_at lw_m4 218 rfl) rfl
theorem q1042 : (Jvm.Cond.instanceMethod ({ cls := "FunDesk$Both", name := "names", desc := "(LFunDesk$Scope;)LFunDesk$Scope;" } : Jvm.MethodName)) ∈ lw_all := lw_g (lw_at lw_m4 216 rfl) rfl
theorem am_mok193 : am_mok 193 := ⟨q1044, q127, rfl, (by decide), ⟨by decide, by decide⟩, (by decide +kernel), fun h => absurd h (by decide), fun _ => q1042, fun h => absurd h (by decide), fun _ => (by decide)⟩
theorem q1133 : (Jvm.Cond.code ({ cls := "FunDesk$Both", name := "infer", desc := "(LFunDesk;)LFunDesk$Type;" } : Jvm.MethodName) prog_4_method_3_code (3 : Nat) (Option.some (Jvm.ClassFile.FieldType.object "FunDesk$Type"))) ∈ lw_all := lw_g (lw_at lw_m5 67 rfl) rfl
theorem q1131 : (Jvm.Cond.instanceMethod ({ cls := "FunDesk$Both", name := "infer", desc := "(LFunDesk;)LFunDesk$Type;" } : Jvm.MethodName)) ∈ lw_all := lw_g (lw_at lw_m5 65 rfl) rfl
theorem am_mok194 : am_mok 194 := ⟨q1133, q127, rfl, (by decide), ⟨by decide, by decide⟩, (by decide +kernel), fun h => absurd h (by decide), fun _ => q1131, fun h => absurd h (by decide), fun _ => (by decide)⟩
theorem q894 : (Jvm.Cond.code ({ cls := "FunDesk$Function", name := "<init>", desc := "(CLFunDesk$Expr;)V" } : Jvm.MethodName) prog_12_method_1_code (3 : Nat) (Option.none : Option Jvm.ClassFile.FieldType)) ∈ lw_all := lw_g (lw_at lw_m4 68 rfl) rfl
theorem q893 : (Jvm.Cond.instanceMethod ({ cls := "FunDesk$Function", name := "<init>", desc := "(CLFunDesk$Expr;)V" } : Jvm.MethodName)) ∈ lw_all := lw_g (lw_at lw_m4 67 rfl) rfl
theorem am_mok195 : am_mok 195 := ⟨q894, q128, rfl, (by decide), ⟨by decide, by decide⟩, (by decide +kernel), fun h => absurd h (by decide), fun _ => q893, fun _ => ⟨rfl, rfl, rfl⟩, fun h => absurd rfl h⟩
theorem q947 : (Jvm.Cond.code ({ cls := "FunDesk$Function", name := "look", desc := "(LFunDesk$Scope;)V" } : Jvm.MethodName) prog_12_method_2_code (2 : Nat) (Option.none : Option Jvm.ClassFile.FieldType)) ∈ lw_all := lw_g (lw_at lw_m4 121 rfl) rfl
theorem q945 : (Jvm.Cond.instanceMethod ({ cls := "FunDesk$Function", name := "look", desc := "(LFunDesk$Scope;)V" } : Jvm.MethodName)) ∈ lw_all := lw_g (lw_at lw_m4 119 rfl) rfl
theorem am_mok196 : am_mok 196 := ⟨q947, q128, rfl, (by decide), ⟨by decide, by decide⟩, (by decide +kernel), fun h => absurd h (by decide), fun _ => q945, fun h => absurd h (by decide), fun _ => (by decide)⟩
theorem q1158 : (Jvm.Cond.code ({ cls := "FunDesk$Function", name := "infer", desc := "(LFunDesk;LFunDesk$Scope;)LFunDesk$Type;" } : Jvm.MethodName) prog_12_method_3_code (4 : Nat) (Option.some (Jvm.ClassFile.FieldType.object "FunDesk$Type"))) ∈ lw_all := lw_g (lw_at lw_m5 92 rfl) rfl
theorem q1156 : (Jvm.Cond.instanceMethod ({ cls := "FunDesk$Function", name := "infer", desc := "(LFunDesk;LFunDesk$Scope;)LFunDesk$Type;" } : Jvm.MethodName)) ∈ lw_all := lw_g (lw_at lw_m5 90 rfl) rfl
theorem am_mok197 : am_mok 197 := ⟨q1158, q128, rfl, (by decide), ⟨by decide, by decide⟩, (by decide +kernel), fun h => absurd h (by decide), fun _ => q1156, fun h => absurd h (by decide), fun _ => (by decide)⟩
theorem q1248 : (Jvm.Cond.code ({ cls := "FunDesk$Function", name := "compile", desc := "(LFunDesk;LFunDesk$Scope;)V" } : Jvm.MethodName) prog_12_method_4_code (5 : Nat) (Option.none : Option Jvm.ClassFile.FieldType)) ∈ lw_all := lw_g (lw_at lw_m5 182 rfl) rfl
theorem q1246 : (Jvm.Cond.instanceMethod ({ cls := "FunDesk$Function", name := "compile", desc := "(LFunDesk;LFunDesk$Scope;)V" } : Jvm.MethodName)) ∈ lw_all := lw_g (lw_at lw_m5 180 rfl) rfl
theorem am_mok198 : am_mok 198 := ⟨q1248, q128, rfl, (by decide), ⟨by decide, by decide⟩, (by decide +kernel), fun h => absurd h (by decide), fun _ => q1246, fun h => absurd h (by decide), fun _ => (by decide)⟩
theorem q907 : (Jvm.Cond.code ({ cls := "FunDesk$Let", name := "<init>", desc := "(CLFunDesk$Expr;LFunDesk$Expr;Z)V" } : Jvm.MethodName) prog_14_method_1_code (5 : Nat) (Option.none : Option Jvm.ClassFile.FieldType)) ∈ lw_all := lw_g (lw_at lw_m4 81 rfl) rfl
theorem q906 : (Jvm.Cond.instanceMethod ({ cls := "FunDesk$Let", name := "<init>", desc := "(CLFunDesk$Expr;LFunDesk$Expr;Z)V" } : Jvm.MethodName)) ∈ lw_all := lw_g (lw_at lw_m4 80 rfl) rfl
theorem am_mok199 : am_mok 199 := ⟨q907, q129, rfl, (by decide), ⟨by decide, by decide⟩, (by decide +kernel), fun h => absurd h (by decide), fun _ => q906, fun _ => ⟨rfl, rfl, rfl⟩, fun h => absurd rfl h⟩
theorem q979 : (Jvm.Cond.code ({ cls := "FunDesk$Let", name := "look", desc := "(LFunDesk$Scope;)V" } : Jvm.MethodName) prog_14_method_2_code (3 : Nat) (Option.none : Option Jvm.ClassFile.FieldType)) ∈ lw_all := lw_g (lw_at lw_m4 153 rfl) rfl
theorem q977 : (Jvm.Cond.instanceMethod ({ cls := "FunDesk$Let", name := "look", desc := "(LFunDesk$Scope;)V" } : Jvm.MethodName)) ∈ lw_all := lw_g (lw_at lw_m4 151 rfl) rfl
theorem am_mok200 : am_mok 200 := ⟨q979, q129, rfl, (by decide), ⟨by decide, by decide⟩, (by decide +kernel), fun h => absurd h (by decide), fun _ => q977, fun h => absurd h (by decide), fun _ => (by decide)⟩
theorem q1175 : (Jvm.Cond.code ({ cls := "FunDesk$Let", name := "infer", desc := "(LFunDesk;LFunDesk$Scope;)LFunDesk$Type;" } : Jvm.MethodName) prog_14_method_3_code (4 : Nat) (Option.some (Jvm.ClassFile.FieldType.object "FunDesk$Type"))) ∈ lw_all := lw_g (lw_at lw_m5 109 rfl) rfl
theorem q1173 : (Jvm.Cond.instanceMethod ({ cls := "FunDesk$Let", name := "infer", desc := "(LFunDesk;LFunDesk$Scope;)LFunDesk$Type;" } : Jvm.MethodName)) ∈ lw_all := lw_g (lw_at lw_m5 107 rfl) rfl
theorem am_mok201 : am_mok 201 := ⟨q1175, q129, rfl, (by decide), ⟨by decide, by decide⟩, (by decide +kernel), fun h => absurd h (by decide), fun _ => q1173, fun h => absurd h (by decide), fun _ => (by decide)⟩
theorem q1268 : (Jvm.Cond.code ({ cls := "FunDesk$Let", name := "compile", desc := "(LFunDesk;LFunDesk$Scope;)V" } : Jvm.MethodName) prog_14_method_4_code (5 : Nat) (Option.none : Option Jvm.ClassFile.FieldType)) ∈ lw_all := lw_g (lw_at lw_m5 202 rfl) rfl
theorem q1266 : (Jvm.Cond.instanceMethod ({ cls := "FunDesk$Let", name := "compile", desc := "(LFunDesk;LFunDesk$Scope;)V" } : Jvm.MethodName)) ∈ lw_all := lw_g (lw_at lw_m5 200 rfl) rfl
theorem am_mok202 : am_mok 202 := ⟨q1268, q129, rfl, (by decide), ⟨by decide, by decide⟩, (by decide +kernel), fun h => absurd h (by decide), fun _ => q1266, fun h => absurd h (by decide), fun _ => (by decide)⟩
theorem q952 : (Jvm.Cond.code ({ cls := "FunDesk$Scope", name := "<init>", desc := "(CLFunDesk$Type;LFunDesk$Scope;)V" } : Jvm.MethodName) prog_22_method_1_code (4 : Nat) (Option.none : Option Jvm.ClassFile.FieldType)) ∈ lw_all := lw_g (lw_at lw_m4 126 rfl) rfl
theorem q951 : (Jvm.Cond.instanceMethod ({ cls := "FunDesk$Scope", name := "<init>", desc := "(CLFunDesk$Type;LFunDesk$Scope;)V" } : Jvm.MethodName)) ∈ lw_all := lw_g (lw_at lw_m4 125 rfl) rfl
theorem am_mok203 : am_mok 203 := ⟨q952, q130, rfl, (by decide), ⟨by decide, by decide⟩, (by decide +kernel), fun h => absurd h (by decide), fun _ => q951, fun _ => ⟨rfl, rfl, rfl⟩, fun h => absurd rfl h⟩
theorem q996 : (Jvm.Cond.code ({ cls := "FunDesk$Scope", name := "name", desc := "()C" } : Jvm.MethodName) prog_22_method_5_code (1 : Nat) (Option.some Jvm.ClassFile.FieldType.char)) ∈ lw_all := lw_g (lw_at lw_m4 170 rfl) rfl
theorem q994 : (Jvm.Cond.instanceMethod ({ cls := "FunDesk$Scope", name := "name", desc := "()C" } : Jvm.MethodName)) ∈ lw_all := lw_g (lw_at lw_m4 168 rfl) rfl
theorem am_mok204 : am_mok 204 := ⟨q996, q130, rfl, (by decide), ⟨by decide, by decide⟩, (by decide +kernel), fun h => absurd h (by decide), fun _ => q994, fun h => absurd h (by decide), fun _ => (by decide)⟩
theorem q1000 : (Jvm.Cond.code ({ cls := "FunDesk$Scope", name := "next", desc := "()LFunDesk$Scope;" } : Jvm.MethodName) prog_22_method_7_code (1 : Nat) (Option.some (Jvm.ClassFile.FieldType.object "FunDesk$Scope"))) ∈ lw_all := lw_g (lw_at lw_m4 174 rfl) rfl
theorem q998 : (Jvm.Cond.instanceMethod ({ cls := "FunDesk$Scope", name := "next", desc := "()LFunDesk$Scope;" } : Jvm.MethodName)) ∈ lw_all := lw_g (lw_at lw_m4 172 rfl) rfl
theorem am_mok205 : am_mok 205 := ⟨q1000, q130, rfl, (by decide), ⟨by decide, by decide⟩, (by decide +kernel), fun h => absurd h (by decide), fun _ => q998, fun h => absurd h (by decide), fun _ => (by decide)⟩
theorem q1192 : (Jvm.Cond.code ({ cls := "FunDesk$Scope", name := "type", desc := "()LFunDesk$Type;" } : Jvm.MethodName) prog_22_method_6_code (1 : Nat) (Option.some (Jvm.ClassFile.FieldType.object "FunDesk$Type"))) ∈ lw_all := lw_g (lw_at lw_m5 126 rfl) rfl
theorem q1190 : (Jvm.Cond.instanceMethod ({ cls := "FunDesk$Scope", name := "type", desc := "()LFunDesk$Type;" } : Jvm.MethodName)) ∈ lw_all := lw_g (lw_at lw_m5 124 rfl) rfl
theorem am_mok206 : am_mok 206 := ⟨q1192, q130, rfl, (by decide), ⟨by decide, by decide⟩, (by decide +kernel), fun h => absurd h (by decide), fun _ => q1190, fun h => absurd h (by decide), fun _ => (by decide)⟩
theorem q394 : (Jvm.Cond.code ({ cls := "FunDesk$Whole", name := "<init>", desc := "(I)V" } : Jvm.MethodName) prog_26_method_1_code (2 : Nat) (Option.none : Option Jvm.ClassFile.FieldType)) ∈ lw_all := lw_g (lw_at lw_m2 48 rfl) rfl
theorem q393 : (Jvm.Cond.instanceMethod ({ cls := "FunDesk$Whole", name := "<init>", desc := "(I)V" } : Jvm.MethodName)) ∈ lw_all := lw_g (lw_at lw_m2 47 rfl) rfl
theorem am_mok207 : am_mok 207 := ⟨q394, q134, rfl, (by decide), ⟨by decide, by decide⟩, (by decide +kernel), fun h => absurd h (by decide), fun _ => q393, fun _ => ⟨rfl, rfl, rfl⟩, fun h => absurd rfl h⟩
theorem q457 : (Jvm.Cond.code ({ cls := "FunDesk$Whole", name := "number", desc := "()I" } : Jvm.MethodName) prog_26_method_5_code (1 : Nat) (Option.some Jvm.ClassFile.FieldType.int)) ∈ lw_all := lw_g (lw_at lw_m2 111 rfl) rfl
theorem q455 : (Jvm.Cond.instanceMethod ({ cls := "FunDesk$Whole", name := "number", desc := "()I" } : Jvm.MethodName)) ∈ lw_all := lw_g (lw_at lw_m2 109 rfl) rfl
theorem am_mok208 : am_mok 208 := ⟨q457, q134, rfl, (by decide), ⟨by decide, by decide⟩, (by decide +kernel), fun h => absurd h (by decide), fun _ => q455, fun h => absurd h (by decide), fun _ => (by decide)⟩
theorem q409 : (Jvm.Cond.code ({ cls := "FunDesk$Broken", name := "<init>", desc := "(D)V" } : Jvm.MethodName) prog_5_method_1_code (3 : Nat) (Option.none : Option Jvm.ClassFile.FieldType)) ∈ lw_all := lw_g (lw_at lw_m2 63 rfl) rfl
theorem q408 : (Jvm.Cond.instanceMethod ({ cls := "FunDesk$Broken", name := "<init>", desc := "(D)V" } : Jvm.MethodName)) ∈ lw_all := lw_g (lw_at lw_m2 62 rfl) rfl
theorem am_mok209 : am_mok 209 := ⟨q409, q135, rfl, (by decide), ⟨by decide, by decide⟩, (by decide +kernel), fun h => absurd h (by decide), fun _ => q408, fun _ => ⟨rfl, rfl, rfl⟩, fun h => absurd rfl h⟩
theorem q465 : (Jvm.Cond.code ({ cls := "FunDesk$Broken", name := "number", desc := "()D" } : Jvm.MethodName) prog_5_method_5_code (1 : Nat) (Option.some Jvm.ClassFile.FieldType.double)) ∈ lw_all := lw_g (lw_at lw_m2 119 rfl) rfl
theorem q463 : (Jvm.Cond.instanceMethod ({ cls := "FunDesk$Broken", name := "number", desc := "()D" } : Jvm.MethodName)) ∈ lw_all := lw_g (lw_at lw_m2 117 rfl) rfl
theorem am_mok210 : am_mok 210 := ⟨q465, q135, rfl, (by decide), ⟨by decide, by decide⟩, (by decide +kernel), fun h => absurd h (by decide), fun _ => q463, fun h => absurd h (by decide), fun _ => (by decide)⟩
theorem q419 : (Jvm.Cond.code ({ cls := "FunDesk$Built", name := "<init>", desc := "(I)V" } : Jvm.MethodName) prog_6_method_1_code (2 : Nat) (Option.none : Option Jvm.ClassFile.FieldType)) ∈ lw_all := lw_g (lw_at lw_m2 73 rfl) rfl
theorem q418 : (Jvm.Cond.instanceMethod ({ cls := "FunDesk$Built", name := "<init>", desc := "(I)V" } : Jvm.MethodName)) ∈ lw_all := lw_g (lw_at lw_m2 72 rfl) rfl
theorem am_mok211 : am_mok 211 := ⟨q419, q136, rfl, (by decide), ⟨by decide, by decide⟩, (by decide +kernel), fun h => absurd h (by decide), fun _ => q418, fun _ => ⟨rfl, rfl, rfl⟩, fun h => absurd rfl h⟩
theorem q449 : (Jvm.Cond.code ({ cls := "FunDesk$Built", name := "name", desc := "()I" } : Jvm.MethodName) prog_6_method_5_code (1 : Nat) (Option.some Jvm.ClassFile.FieldType.int)) ∈ lw_all := lw_g (lw_at lw_m2 103 rfl) rfl
theorem q447 : (Jvm.Cond.instanceMethod ({ cls := "FunDesk$Built", name := "name", desc := "()I" } : Jvm.MethodName)) ∈ lw_all := lw_g (lw_at lw_m2 101 rfl) rfl
theorem am_mok212 : am_mok 212 := ⟨q449, q136, rfl, (by decide), ⟨by decide, by decide⟩, (by decide +kernel), fun h => absurd h (by decide), fun _ => q447, fun h => absurd h (by decide), fun _ => (by decide)⟩
theorem q429 : (Jvm.Cond.code ({ cls := "FunDesk$Closure", name := "<init>", desc := "(ILFunDesk$Env;)V" } : Jvm.MethodName) prog_8_method_1_code (3 : Nat) (Option.none : Option Jvm.ClassFile.FieldType)) ∈ lw_all := lw_g (lw_at lw_m2 83 rfl) rfl
theorem q428 : (Jvm.Cond.instanceMethod ({ cls := "FunDesk$Closure", name := "<init>", desc := "(ILFunDesk$Env;)V" } : Jvm.MethodName)) ∈ lw_all := lw_g (lw_at lw_m2 82 rfl) rfl
theorem am_mok213 : am_mok 213 := ⟨q429, q137, rfl, (by decide), ⟨by decide, by decide⟩, (by decide +kernel), fun h => absurd h (by decide), fun _ => q428, fun _ => ⟨rfl, rfl, rfl⟩, fun h => absurd rfl h⟩
theorem q470 : (Jvm.Cond.code ({ cls := "FunDesk$Closure", name := "env", desc := "()LFunDesk$Env;" } : Jvm.MethodName) prog_8_method_6_code (1 : Nat) (Option.some (Jvm.ClassFile.FieldType.object "FunDesk$Env"))) ∈ lw_all := lw_g (lw_at lw_m2 124 rfl) rfl
theorem q468 : (Jvm.Cond.instanceMethod ({ cls := "FunDesk$Closure", name := "env", desc := "()LFunDesk$Env;" } : Jvm.MethodName)) ∈ lw_all := lw_g (lw_at lw_m2 122 rfl) rfl
theorem am_mok214 : am_mok 214 := ⟨q470, q137, rfl, (by decide), ⟨by decide, by decide⟩, (by decide +kernel), fun h => absurd h (by decide), fun _ => q468, fun h => absurd h (by decide), fun _ => (by decide)⟩
theorem q487 : (Jvm.Cond.code ({ cls := "FunDesk$Closure", name := "at", desc := "()I" } : Jvm.MethodName) prog_8_method_5_code (1 : Nat) (Option.some Jvm.ClassFile.FieldType.int)) ∈ lw_all := lw_g (lw_at lw_m2 141 rfl) rfl
theorem q485 : (Jvm.Cond.instanceMethod ({ cls := "FunDesk$Closure", name := "at", desc := "()I" } : Jvm.MethodName)) ∈ lw_all := lw_g (lw_at lw_m2 139 rfl) rfl
theorem am_mok215 : am_mok 215 := ⟨q487, q137, rfl, (by decide), ⟨by decide, by decide⟩, (by decide +kernel), fun h => absurd h (by decide), fun _ => q485, fun h => absurd h (by decide), fun _ => (by decide)⟩
theorem q473 : (Jvm.Cond.code ({ cls := "FunDesk$Env", name := "<init>", desc := "(LFunDesk$Value;LFunDesk$Env;)V" } : Jvm.MethodName) prog_10_method_1_code (3 : Nat) (Option.none : Option Jvm.ClassFile.FieldType)) ∈ lw_all := lw_g (lw_at lw_m2 127 rfl) rfl
theorem q472 : (Jvm.Cond.instanceMethod ({ cls := "FunDesk$Env", name := "<init>", desc := "(LFunDesk$Value;LFunDesk$Env;)V" } : Jvm.MethodName)) ∈ lw_all := lw_g (lw_at lw_m2 126 rfl) rfl
theorem am_mok216 : am_mok 216 := ⟨q473, q138, rfl, (by decide), ⟨by decide, by decide⟩, (by decide +kernel), fun h => absurd h (by decide), fun _ => q472, fun _ => ⟨rfl, rfl, rfl⟩, fun h => absurd rfl h⟩
theorem q496 : (Jvm.Cond.code ({ cls := "FunDesk$Cons", name := "<init>", desc := "(LFunDesk$Value;LFunDesk$Value;)V" } : Jvm.MethodName) prog_9_method_1_code (3 : Nat) (Option.none : Option Jvm.ClassFile.FieldType)) ∈ lw_all := lw_g (lw_at lw_m2 150 rfl) rfl
theorem q495 : (Jvm.Cond.instanceMethod ({ cls := "FunDesk$Cons", name := "<init>", desc := "(LFunDesk$Value;LFunDesk$Value;)V" } : Jvm.MethodName)) ∈ lw_all := lw_g (lw_at lw_m2 149 rfl) rfl
theorem am_mok217 : am_mok 217 := ⟨q496, q139, rfl, (by decide), ⟨by decide, by decide⟩, (by decide +kernel), fun h => absurd h (by decide), fun _ => q495, fun _ => ⟨rfl, rfl, rfl⟩, fun h => absurd rfl h⟩
theorem q545 : (Jvm.Cond.code ({ cls := "FunDesk$Cons", name := "first", desc := "()LFunDesk$Value;" } : Jvm.MethodName) prog_9_method_5_code (1 : Nat) (Option.some (Jvm.ClassFile.FieldType.object "FunDesk$Value"))) ∈ lw_all := lw_g (lw_at lw_m2 199 rfl) rfl
theorem q543 : (Jvm.Cond.instanceMethod ({ cls := "FunDesk$Cons", name := "first", desc := "()LFunDesk$Value;" } : Jvm.MethodName)) ∈ lw_all := lw_g (lw_at lw_m2 197 rfl) rfl
theorem am_mok218 : am_mok 218 := ⟨q545, q139, rfl, (by decide), ⟨by decide, by decide⟩, (by decide +kernel), fun h => absurd h (by decide), fun _ => q543, fun h => absurd h (by decide), fun _ => (by decide)⟩
theorem q562 : (Jvm.Cond.code ({ cls := "FunDesk$Cons", name := "rest", desc := "()LFunDesk$Value;" } : Jvm.MethodName) prog_9_method_6_code (1 : Nat) (Option.some (Jvm.ClassFile.FieldType.object "FunDesk$Value"))) ∈ lw_all := lw_g (lw_at lw_m2 216 rfl) rfl
theorem q560 : (Jvm.Cond.instanceMethod ({ cls := "FunDesk$Cons", name := "rest", desc := "()LFunDesk$Value;" } : Jvm.MethodName)) ∈ lw_all := lw_g (lw_at lw_m2 214 rfl) rfl
theorem am_mok219 : am_mok 219 := ⟨q562, q139, rfl, (by decide), ⟨by decide, by decide⟩, (by decide +kernel), fun h => absurd h (by decide), fun _ => q560, fun h => absurd h (by decide), fun _ => (by decide)⟩
theorem q196 : (Jvm.Cond.code ({ cls := "java/lang/Record", name := "<init>", desc := "()V" } : Jvm.MethodName) prog_35_method_1_code (1 : Nat) (Option.none : Option Jvm.ClassFile.FieldType)) ∈ lw_all := lw_g (lw_at lw_m1 90 rfl) rfl
theorem q111 : (Jvm.Cond.initialized "java/lang/Record") ∈ lw_all := lw_g (lw_at lw_m1 5 rfl) rfl
theorem q195 : (Jvm.Cond.instanceMethod ({ cls := "java/lang/Record", name := "<init>", desc := "()V" } : Jvm.MethodName)) ∈ lw_all := lw_g (lw_at lw_m1 89 rfl) rfl
theorem am_mok220 : am_mok 220 := ⟨q196, q111, rfl, (by decide), ⟨by decide, by decide⟩, (by decide +kernel), fun h => absurd h (by decide), fun _ => q195, fun _ => ⟨rfl, rfl, rfl⟩, fun h => absurd rfl h⟩
theorem am_mokAll (m : Nat) (h : m < 221) : am_mok m := by
  match m, h with
  | 0, _ => exact am_mok0
  | 1, _ => exact am_mok1
  | 2, _ => exact am_mok2
  | 3, _ => exact am_mok3
  | 4, _ => exact am_mok4
  | 5, _ => exact am_mok5
  | 6, _ => exact am_mok6
  | 7, _ => exact am_mok7
  | 8, _ => exact am_mok8
  | 9, _ => exact am_mok9
  | 10, _ => exact am_mok10
  | 11, _ => exact am_mok11
  | 12, _ => exact am_mok12
  | 13, _ => exact am_mok13
  | 14, _ => exact am_mok14
  | 15, _ => exact am_mok15
  | 16, _ => exact am_mok16
  | 17, _ => exact am_mok17
  | 18, _ => exact am_mok18
  | 19, _ => exact am_mok19
  | 20, _ => exact am_mok20
  | 21, _ => exact am_mok21
  | 22, _ => exact am_mok22
  | 23, _ => exact am_mok23
  | 24, _ => exact am_mok24
  | 25, _ => exact am_mok25
  | 26, _ => exact am_mok26
  | 27, _ => exact am_mok27
  | 28, _ => exact am_mok28
  | 29, _ => exact am_mok29
  | 30, _ => exact am_mok30
  | 31, _ => exact am_mok31
  | 32, _ => exact am_mok32
  | 33, _ => exact am_mok33
  | 34, _ => exact am_mok34
  | 35, _ => exact am_mok35
  | 36, _ => exact am_mok36
  | 37, _ => exact am_mok37
  | 38, _ => exact am_mok38
  | 39, _ => exact am_mok39
  | 40, _ => exact am_mok40
  | 41, _ => exact am_mok41
  | 42, _ => exact am_mok42
  | 43, _ => exact am_mok43
  | 44, _ => exact am_mok44
  | 45, _ => exact am_mok45
  | 46, _ => exact am_mok46
  | 47, _ => exact am_mok47
  | 48, _ => exact am_mok48
  | 49, _ => exact am_mok49
  | 50, _ => exact am_mok50
  | 51, _ => exact am_mok51
  | 52, _ => exact am_mok52
  | 53, _ => exact am_mok53
  | 54, _ => exact am_mok54
  | 55, _ => exact am_mok55
  | 56, _ => exact am_mok56
  | 57, _ => exact am_mok57
  | 58, _ => exact am_mok58
  | 59, _ => exact am_mok59
  | 60, _ => exact am_mok60
  | 61, _ => exact am_mok61
  | 62, _ => exact am_mok62
  | 63, _ => exact am_mok63
  | 64, _ => exact am_mok64
  | 65, _ => exact am_mok65
  | 66, _ => exact am_mok66
  | 67, _ => exact am_mok67
  | 68, _ => exact am_mok68
  | 69, _ => exact am_mok69
  | 70, _ => exact am_mok70
  | 71, _ => exact am_mok71
  | 72, _ => exact am_mok72
  | 73, _ => exact am_mok73
  | 74, _ => exact am_mok74
  | 75, _ => exact am_mok75
  | 76, _ => exact am_mok76
  | 77, _ => exact am_mok77
  | 78, _ => exact am_mok78
  | 79, _ => exact am_mok79
  | 80, _ => exact am_mok80
  | 81, _ => exact am_mok81
  | 82, _ => exact am_mok82
  | 83, _ => exact am_mok83
  | 84, _ => exact am_mok84
  | 85, _ => exact am_mok85
  | 86, _ => exact am_mok86
  | 87, _ => exact am_mok87
  | 88, _ => exact am_mok88
  | 89, _ => exact am_mok89
  | 90, _ => exact am_mok90
  | 91, _ => exact am_mok91
  | 92, _ => exact am_mok92
  | 93, _ => exact am_mok93
  | 94, _ => exact am_mok94
  | 95, _ => exact am_mok95
  | 96, _ => exact am_mok96
  | 97, _ => exact am_mok97
  | 98, _ => exact am_mok98
  | 99, _ => exact am_mok99
  | 100, _ => exact am_mok100
  | 101, _ => exact am_mok101
  | 102, _ => exact am_mok102
  | 103, _ => exact am_mok103
  | 104, _ => exact am_mok104
  | 105, _ => exact am_mok105
  | 106, _ => exact am_mok106
  | 107, _ => exact am_mok107
  | 108, _ => exact am_mok108
  | 109, _ => exact am_mok109
  | 110, _ => exact am_mok110
  | 111, _ => exact am_mok111
  | 112, _ => exact am_mok112
  | 113, _ => exact am_mok113
  | 114, _ => exact am_mok114
  | 115, _ => exact am_mok115
  | 116, _ => exact am_mok116
  | 117, _ => exact am_mok117
  | 118, _ => exact am_mok118
  | 119, _ => exact am_mok119
  | 120, _ => exact am_mok120
  | 121, _ => exact am_mok121
  | 122, _ => exact am_mok122
  | 123, _ => exact am_mok123
  | 124, _ => exact am_mok124
  | 125, _ => exact am_mok125
  | 126, _ => exact am_mok126
  | 127, _ => exact am_mok127
  | 128, _ => exact am_mok128
  | 129, _ => exact am_mok129
  | 130, _ => exact am_mok130
  | 131, _ => exact am_mok131
  | 132, _ => exact am_mok132
  | 133, _ => exact am_mok133
  | 134, _ => exact am_mok134
  | 135, _ => exact am_mok135
  | 136, _ => exact am_mok136
  | 137, _ => exact am_mok137
  | 138, _ => exact am_mok138
  | 139, _ => exact am_mok139
  | 140, _ => exact am_mok140
  | 141, _ => exact am_mok141
  | 142, _ => exact am_mok142
  | 143, _ => exact am_mok143
  | 144, _ => exact am_mok144
  | 145, _ => exact am_mok145
  | 146, _ => exact am_mok146
  | 147, _ => exact am_mok147
  | 148, _ => exact am_mok148
  | 149, _ => exact am_mok149
  | 150, _ => exact am_mok150
  | 151, _ => exact am_mok151
  | 152, _ => exact am_mok152
  | 153, _ => exact am_mok153
  | 154, _ => exact am_mok154
  | 155, _ => exact am_mok155
  | 156, _ => exact am_mok156
  | 157, _ => exact am_mok157
  | 158, _ => exact am_mok158
  | 159, _ => exact am_mok159
  | 160, _ => exact am_mok160
  | 161, _ => exact am_mok161
  | 162, _ => exact am_mok162
  | 163, _ => exact am_mok163
  | 164, _ => exact am_mok164
  | 165, _ => exact am_mok165
  | 166, _ => exact am_mok166
  | 167, _ => exact am_mok167
  | 168, _ => exact am_mok168
  | 169, _ => exact am_mok169
  | 170, _ => exact am_mok170
  | 171, _ => exact am_mok171
  | 172, _ => exact am_mok172
  | 173, _ => exact am_mok173
  | 174, _ => exact am_mok174
  | 175, _ => exact am_mok175
  | 176, _ => exact am_mok176
  | 177, _ => exact am_mok177
  | 178, _ => exact am_mok178
  | 179, _ => exact am_mok179
  | 180, _ => exact am_mok180
  | 181, _ => exact am_mok181
  | 182, _ => exact am_mok182
  | 183, _ => exact am_mok183
  | 184, _ => exact am_mok184
  | 185, _ => exact am_mok185
  | 186, _ => exact am_mok186
  | 187, _ => exact am_mok187
  | 188, _ => exact am_mok188
  | 189, _ => exact am_mok189
  | 190, _ => exact am_mok190
  | 191, _ => exact am_mok191
  | 192, _ => exact am_mok192
  | 193, _ => exact am_mok193
  | 194, _ => exact am_mok194
  | 195, _ => exact am_mok195
  | 196, _ => exact am_mok196
  | 197, _ => exact am_mok197
  | 198, _ => exact am_mok198
  | 199, _ => exact am_mok199
  | 200, _ => exact am_mok200
  | 201, _ => exact am_mok201
  | 202, _ => exact am_mok202
  | 203, _ => exact am_mok203
  | 204, _ => exact am_mok204
  | 205, _ => exact am_mok205
  | 206, _ => exact am_mok206
  | 207, _ => exact am_mok207
  | 208, _ => exact am_mok208
  | 209, _ => exact am_mok209
  | 210, _ => exact am_mok210
  | 211, _ => exact am_mok211
  | 212, _ => exact am_mok212
  | 213, _ => exact am_mok213
  | 214, _ => exact am_mok214
  | 215, _ => exact am_mok215
  | 216, _ => exact am_mok216
  | 217, _ => exact am_mok217
  | 218, _ => exact am_mok218
  | 219, _ => exact am_mok219
  | 220, _ => exact am_mok220
  | n + 221, h => exact absurd h (by omega)
/-- methods that are called through an object: the table says which code that is -/
theorem q347 : (Jvm.Cond.selects "FunDesk" ({ cls := "FunDesk", name := "type", desc := "(C)Z" } : Jvm.MethodName) ({ cls := "FunDesk", name := "type", desc := "(C)Z" } : Jvm.MethodName)) ∈ lw_all := lw_g (lw_at lw_m2 1 rfl) rfl
theorem q351 : (Jvm.Cond.selects "FunDesk" ({ cls := "FunDesk", name := "wipe", desc := "()V" } : Jvm.MethodName) ({ cls := "FunDesk", name := "wipe", desc := "()V" } : Jvm.MethodName)) ∈ lw_all := lw_g (lw_at lw_m2 5 rfl) rfl
theorem q355 : (Jvm.Cond.selects "FunDesk" ({ cls := "FunDesk", name := "shown", desc := "(I)I" } : Jvm.MethodName) ({ cls := "FunDesk", name := "shown", desc := "(I)I" } : Jvm.MethodName)) ∈ lw_all := lw_g (lw_at lw_m2 9 rfl) rfl
theorem q359 : (Jvm.Cond.selects "FunDesk" ({ cls := "FunDesk", name := "run", desc := "(I)I" } : Jvm.MethodName) ({ cls := "FunDesk", name := "run", desc := "(I)I" } : Jvm.MethodName)) ∈ lw_all := lw_g (lw_at lw_m2 13 rfl) rfl
theorem q565 : (Jvm.Cond.selects "FunDesk" ({ cls := "FunDesk", name := "state", desc := "(I)I" } : Jvm.MethodName) ({ cls := "FunDesk", name := "state", desc := "(I)I" } : Jvm.MethodName)) ∈ lw_all := lw_g (lw_at lw_m2 219 rfl) rfl
theorem q575 : (Jvm.Cond.selects "FunDesk" ({ cls := "FunDesk", name := "load", desc := "()I" } : Jvm.MethodName) ({ cls := "FunDesk", name := "load", desc := "()I" } : Jvm.MethodName)) ∈ lw_all := lw_g (lw_at lw_m2 229 rfl) rfl
theorem q1340 : (Jvm.Cond.selects "FunDesk" ({ cls := "FunDesk", name := "value", desc := "(I)I" } : Jvm.MethodName) ({ cls := "FunDesk", name := "value", desc := "(I)I" } : Jvm.MethodName)) ∈ lw_all := lw_g (lw_at lw_m6 34 rfl) rfl
theorem q1385 : (Jvm.Cond.selects "FunDesk" ({ cls := "FunDesk", name := "real", desc := "()D" } : Jvm.MethodName) ({ cls := "FunDesk", name := "real", desc := "()D" } : Jvm.MethodName)) ∈ lw_all := lw_g (lw_at lw_m6 79 rfl) rfl
theorem q1392 : (Jvm.Cond.selects "FunDesk" ({ cls := "FunDesk", name := "item", desc := "(I)V" } : Jvm.MethodName) ({ cls := "FunDesk", name := "item", desc := "(I)V" } : Jvm.MethodName)) ∈ lw_all := lw_g (lw_at lw_m6 86 rfl) rfl
theorem q1400 : (Jvm.Cond.selects "FunDesk" ({ cls := "FunDesk", name := "top", desc := "()V" } : Jvm.MethodName) ({ cls := "FunDesk", name := "top", desc := "()V" } : Jvm.MethodName)) ∈ lw_all := lw_g (lw_at lw_m6 94 rfl) rfl
theorem q1079 : (Jvm.Cond.selects "FunDesk$Type" ({ cls := "FunDesk$Type", name := "real", desc := "()LFunDesk$Type;" } : Jvm.MethodName) ({ cls := "FunDesk$Type", name := "real", desc := "()LFunDesk$Type;" } : Jvm.MethodName)) ∈ lw_all := lw_g (lw_at lw_m5 13 rfl) rfl
theorem q1630 : (Jvm.Cond.selects "FunDeskModel" ({ cls := "FunDeskModel", name := "thrown", desc := "()I" } : Jvm.MethodName) ({ cls := "FunDeskModel", name := "thrown", desc := "()I" } : Jvm.MethodName)) ∈ lw_all := lw_g (lw_at lw_m7 84 rfl) rfl
theorem q1634 : (Jvm.Cond.selects "FunDeskModel" ({ cls := "FunDeskModel", name := "type", desc := "(C)Z" } : Jvm.MethodName) ({ cls := "FunDeskModel", name := "type", desc := "(C)Z" } : Jvm.MethodName)) ∈ lw_all := lw_g (lw_at lw_m7 88 rfl) rfl
theorem q1638 : (Jvm.Cond.selects "FunDeskModel" ({ cls := "FunDeskModel", name := "wipe", desc := "()V" } : Jvm.MethodName) ({ cls := "FunDeskModel", name := "wipe", desc := "()V" } : Jvm.MethodName)) ∈ lw_all := lw_g (lw_at lw_m7 92 rfl) rfl
theorem q1642 : (Jvm.Cond.selects "FunDeskModel" ({ cls := "FunDeskModel", name := "load", desc := "()I" } : Jvm.MethodName) ({ cls := "FunDeskModel", name := "load", desc := "()I" } : Jvm.MethodName)) ∈ lw_all := lw_g (lw_at lw_m7 96 rfl) rfl
theorem q1844 : (Jvm.Cond.selects "FunDeskModel" ({ cls := "FunDeskModel", name := "shown", desc := "(I)I" } : Jvm.MethodName) ({ cls := "FunDeskModel", name := "shown", desc := "(I)I" } : Jvm.MethodName)) ∈ lw_all := lw_g (lw_at lw_m8 58 rfl) rfl
theorem q1848 : (Jvm.Cond.selects "FunDeskModel" ({ cls := "FunDeskModel", name := "run", desc := "(I)I" } : Jvm.MethodName) ({ cls := "FunDeskModel", name := "run", desc := "(I)I" } : Jvm.MethodName)) ∈ lw_all := lw_g (lw_at lw_m8 62 rfl) rfl
theorem q1931 : (Jvm.Cond.selects "FunDeskModel" ({ cls := "FunDeskModel", name := "state", desc := "(I)I" } : Jvm.MethodName) ({ cls := "FunDeskModel", name := "state", desc := "(I)I" } : Jvm.MethodName)) ∈ lw_all := lw_g (lw_at lw_m8 145 rfl) rfl
theorem q1935 : (Jvm.Cond.selects "FunDeskModel" ({ cls := "FunDeskModel", name := "value", desc := "(I)I" } : Jvm.MethodName) ({ cls := "FunDeskModel", name := "value", desc := "(I)I" } : Jvm.MethodName)) ∈ lw_all := lw_g (lw_at lw_m8 149 rfl) rfl
theorem q1943 : (Jvm.Cond.selects "FunDeskModel" ({ cls := "FunDeskModel", name := "real", desc := "()D" } : Jvm.MethodName) ({ cls := "FunDeskModel", name := "real", desc := "()D" } : Jvm.MethodName)) ∈ lw_all := lw_g (lw_at lw_m8 157 rfl) rfl
theorem q1947 : (Jvm.Cond.selects "FunDeskModel" ({ cls := "FunDeskModel", name := "item", desc := "(I)V" } : Jvm.MethodName) ({ cls := "FunDeskModel", name := "item", desc := "(I)V" } : Jvm.MethodName)) ∈ lw_all := lw_g (lw_at lw_m8 161 rfl) rfl
theorem q1951 : (Jvm.Cond.selects "FunDeskModel" ({ cls := "FunDeskModel", name := "top", desc := "()V" } : Jvm.MethodName) ({ cls := "FunDeskModel", name := "top", desc := "()V" } : Jvm.MethodName)) ∈ lw_all := lw_g (lw_at lw_m8 165 rfl) rfl
theorem q995 : (Jvm.Cond.selects "FunDesk$Scope" ({ cls := "FunDesk$Scope", name := "name", desc := "()C" } : Jvm.MethodName) ({ cls := "FunDesk$Scope", name := "name", desc := "()C" } : Jvm.MethodName)) ∈ lw_all := lw_g (lw_at lw_m4 169 rfl) rfl
theorem q999 : (Jvm.Cond.selects "FunDesk$Scope" ({ cls := "FunDesk$Scope", name := "next", desc := "()LFunDesk$Scope;" } : Jvm.MethodName) ({ cls := "FunDesk$Scope", name := "next", desc := "()LFunDesk$Scope;" } : Jvm.MethodName)) ∈ lw_all := lw_g (lw_at lw_m4 173 rfl) rfl
theorem q1191 : (Jvm.Cond.selects "FunDesk$Scope" ({ cls := "FunDesk$Scope", name := "type", desc := "()LFunDesk$Type;" } : Jvm.MethodName) ({ cls := "FunDesk$Scope", name := "type", desc := "()LFunDesk$Type;" } : Jvm.MethodName)) ∈ lw_all := lw_g (lw_at lw_m5 125 rfl) rfl
theorem q456 : (Jvm.Cond.selects "FunDesk$Whole" ({ cls := "FunDesk$Whole", name := "number", desc := "()I" } : Jvm.MethodName) ({ cls := "FunDesk$Whole", name := "number", desc := "()I" } : Jvm.MethodName)) ∈ lw_all := lw_g (lw_at lw_m2 110 rfl) rfl
theorem q464 : (Jvm.Cond.selects "FunDesk$Broken" ({ cls := "FunDesk$Broken", name := "number", desc := "()D" } : Jvm.MethodName) ({ cls := "FunDesk$Broken", name := "number", desc := "()D" } : Jvm.MethodName)) ∈ lw_all := lw_g (lw_at lw_m2 118 rfl) rfl
theorem q448 : (Jvm.Cond.selects "FunDesk$Built" ({ cls := "FunDesk$Built", name := "name", desc := "()I" } : Jvm.MethodName) ({ cls := "FunDesk$Built", name := "name", desc := "()I" } : Jvm.MethodName)) ∈ lw_all := lw_g (lw_at lw_m2 102 rfl) rfl
theorem q469 : (Jvm.Cond.selects "FunDesk$Closure" ({ cls := "FunDesk$Closure", name := "env", desc := "()LFunDesk$Env;" } : Jvm.MethodName) ({ cls := "FunDesk$Closure", name := "env", desc := "()LFunDesk$Env;" } : Jvm.MethodName)) ∈ lw_all := lw_g (lw_at lw_m2 123 rfl) rfl
theorem q486 : (Jvm.Cond.selects "FunDesk$Closure" ({ cls := "FunDesk$Closure", name := "at", desc := "()I" } : Jvm.MethodName) ({ cls := "FunDesk$Closure", name := "at", desc := "()I" } : Jvm.MethodName)) ∈ lw_all := lw_g (lw_at lw_m2 140 rfl) rfl
theorem q544 : (Jvm.Cond.selects "FunDesk$Cons" ({ cls := "FunDesk$Cons", name := "first", desc := "()LFunDesk$Value;" } : Jvm.MethodName) ({ cls := "FunDesk$Cons", name := "first", desc := "()LFunDesk$Value;" } : Jvm.MethodName)) ∈ lw_all := lw_g (lw_at lw_m2 198 rfl) rfl
theorem q561 : (Jvm.Cond.selects "FunDesk$Cons" ({ cls := "FunDesk$Cons", name := "rest", desc := "()LFunDesk$Value;" } : Jvm.MethodName) ({ cls := "FunDesk$Cons", name := "rest", desc := "()LFunDesk$Value;" } : Jvm.MethodName)) ∈ lw_all := lw_g (lw_at lw_m2 215 rfl) rfl
def am_vs : List Nat := [6, 7, 8, 9, 11, 12, 13, 14, 15, 16, 17, 18, 19, 20, 21, 22, 23, 24, 25, 26, 28, 29, 30, 31, 32, 33, 34, 35, 36, 37, 40, 41, 42, 43, 44, 45, 46, 47, 48, 49, 50, 53, 59, 63, 66, 67, 68, 69, 71, 72, 73, 75, 78, 79, 80, 81, 82, 83, 84, 85, 86, 87, 88, 89, 91, 92, 93, 94, 95, 96, 97, 98, 101, 102, 103, 104, 105, 106, 107, 108, 109, 110, 111, 112, 113, 114, 115, 116, 117, 118, 119, 120, 121, 122, 123, 124, 125, 126, 127, 128, 129, 130, 131, 132, 133, 134, 136, 137, 138, 139, 140, 141, 144, 145, 146, 147, 148, 149, 150, 151, 152, 153, 154, 155, 156, 157, 158, 204, 205, 206, 208, 210, 212, 214, 215, 218, 219]
theorem am_vs0 : ∀ m ∈ [6, 7, 8, 9, 11, 12, 13, 14, 15, 16, 17, 18, 19, 20, 21, 22, 23, 24, 25, 26, 28, 29, 30, 31, 32, 33, 34, 35, 36, 37], Cond.selects (am_y m).cls (am_y m) (am_y m) ∈ lw_all := List.forall_mem_cons.mpr ⟨q347, List.forall_mem_cons.mpr ⟨q351, List.forall_mem_cons.mpr ⟨q355, List.forall_mem_cons.mpr ⟨q359, List.forall_mem_cons.mpr ⟨qs0, List.forall_mem_cons.mpr ⟨qs1, List.forall_mem_cons.mpr ⟨qs2, List.forall_mem_cons.mpr ⟨qs3, List.forall_mem_cons.mpr ⟨qs4, List.forall_mem_cons.mpr ⟨qs5, List.forall_mem_cons.mpr ⟨qs6, List.forall_mem_cons.mpr ⟨qs7, List.forall_mem_cons.mpr ⟨qs8, List.forall_mem_cons.mpr ⟨qs9, List.forall_mem_cons.mpr ⟨qs10, List.forall_mem_cons.mpr ⟨qs11, List.forall_mem_cons.mpr ⟨q565, List.forall_mem_cons.mpr ⟨q575, List.forall_mem_cons.mpr ⟨qs12, List.forall_mem_cons.mpr ⟨qs13, List.forall_mem_cons.mpr ⟨qs15, List.forall_mem_cons.mpr ⟨qs16, List.forall_mem_cons.mpr ⟨qs17, List.forall_mem_cons.mpr ⟨qs18, List.forall_mem_cons.mpr ⟨qs19, List.forall_mem_cons.mpr ⟨qs20, List.forall_mem_cons.mpr ⟨qs21, List.forall_mem_cons.mpr ⟨qs22, List.forall_mem_cons.mpr ⟨qs23, List.forall_mem_cons.mpr ⟨qs24, List.forall_mem_nil _⟩⟩⟩⟩⟩⟩⟩⟩⟩⟩⟩⟩⟩⟩⟩⟩⟩⟩⟩⟩⟩⟩⟩⟩⟩⟩⟩⟩⟩⟩
theorem am_vs1 : ∀ m ∈ [40, 41, 42, 43, 44, 45, 46, 47, 48, 49, 50, 53, 59, 63, 66, 67, 68, 69, 71, 72, 73, 75, 78, 79, 80, 81, 82, 83, 84, 85], Cond.selects (am_y m).cls (am_y m) (am_y m) ∈ lw_all := List.forall_mem_cons.mpr ⟨qs25, List.forall_mem_cons.mpr ⟨qs26, List.forall_mem_cons.mpr ⟨qs27, List.forall_mem_cons.mpr ⟨qs28, List.forall_mem_cons.mpr ⟨qs29, List.forall_mem_cons.mpr ⟨qs30, List.forall_mem_cons.mpr ⟨qs31, List.forall_mem_cons.mpr ⟨qs32, List.forall_mem_cons.mpr ⟨qs33, List.forall_mem_cons.mpr ⟨qs34, List.forall_mem_cons.mpr ⟨qs35, List.forall_mem_cons.mpr ⟨qs36, List.forall_mem_cons.mpr ⟨qs37, List.forall_mem_cons.mpr ⟨qs38, List.forall_mem_cons.mpr ⟨qs39, List.forall_mem_cons.mpr ⟨qs40, List.forall_mem_cons.mpr ⟨q1340, List.forall_mem_cons.mpr ⟨qs41, List.forall_mem_cons.mpr ⟨q1385, List.forall_mem_cons.mpr ⟨q1392, List.forall_mem_cons.mpr ⟨q1400, List.forall_mem_cons.mpr ⟨q1079, List.forall_mem_cons.mpr ⟨q1630, List.forall_mem_cons.mpr ⟨q1634, List.forall_mem_cons.mpr ⟨q1638, List.forall_mem_cons.mpr ⟨q1642, List.forall_mem_cons.mpr ⟨qs42, List.forall_mem_cons.mpr ⟨qs43, List.forall_mem_cons.mpr ⟨qs44, List.forall_mem_cons.mpr ⟨qs45, List.forall_mem_nil _⟩⟩⟩⟩⟩⟩⟩⟩⟩⟩⟩⟩⟩⟩⟩⟩⟩⟩⟩⟩⟩⟩⟩⟩⟩⟩⟩⟩⟩⟩
theorem am_vs2 : ∀ m ∈ [86, 87, 88, 89, 91, 92, 93, 94, 95, 96, 97, 98, 101, 102, 103, 104, 105, 106, 107, 108, 109, 110, 111, 112, 113, 114, 115, 116, 117, 118], Cond.selects (am_y m).cls (am_y m) (am_y m) ∈ lw_all := List.forall_mem_cons.mpr ⟨qs46, List.forall_mem_cons.mpr ⟨qs47, List.forall_mem_cons.mpr ⟨qs48, List.forall_mem_cons.mpr ⟨qs49, List.forall_mem_cons.mpr ⟨qs50, List.forall_mem_cons.mpr ⟨qs51, List.forall_mem_cons.mpr ⟨qs52, List.forall_mem_cons.mpr ⟨qs53, List.forall_mem_cons.mpr ⟨qs54, List.forall_mem_cons.mpr ⟨qs55, List.forall_mem_cons.mpr ⟨qs56, List.forall_mem_cons.mpr ⟨qs57, List.forall_mem_cons.mpr ⟨qs58, List.forall_mem_cons.mpr ⟨qs59, List.forall_mem_cons.mpr ⟨qs60, List.forall_mem_cons.mpr ⟨qs61, List.forall_mem_cons.mpr ⟨qs62, List.forall_mem_cons.mpr ⟨qs63, List.forall_mem_cons.mpr ⟨qs64, List.forall_mem_cons.mpr ⟨qs65, List.forall_mem_cons.mpr ⟨qs66, List.forall_mem_cons.mpr ⟨qs67, List.forall_mem_cons.mpr ⟨qs68, List.forall_mem_cons.mpr ⟨qs69, List.forall_mem_cons.mpr ⟨qs70, List.forall_mem_cons.mpr ⟨qs71, List.forall_mem_cons.mpr ⟨qs72, List.forall_mem_cons.mpr ⟨qs73, List.forall_mem_cons.mpr ⟨qs74, List.forall_mem_cons.mpr ⟨qs75, List.forall_mem_nil _⟩⟩⟩⟩⟩⟩⟩⟩⟩⟩⟩⟩⟩⟩⟩⟩⟩⟩⟩⟩⟩⟩⟩⟩⟩⟩⟩⟩⟩⟩
theorem am_vs3 : ∀ m ∈ [119, 120, 121, 122, 123, 124, 125, 126, 127, 128, 129, 130, 131, 132, 133, 134, 136, 137, 138, 139, 140, 141, 144, 145, 146, 147, 148, 149, 150, 151], Cond.selects (am_y m).cls (am_y m) (am_y m) ∈ lw_all := List.forall_mem_cons.mpr ⟨qs76, List.forall_mem_cons.mpr ⟨qs77, List.forall_mem_cons.mpr ⟨qs78, List.forall_mem_cons.mpr ⟨qs79, List.forall_mem_cons.mpr ⟨qs80, List.forall_mem_cons.mpr ⟨qs81, List.forall_mem_cons.mpr ⟨qs82, List.forall_mem_cons.mpr ⟨qs83, List.forall_mem_cons.mpr ⟨qs84, List.forall_mem_cons.mpr ⟨qs85, List.forall_mem_cons.mpr ⟨qs86, List.forall_mem_cons.mpr ⟨qs87, List.forall_mem_cons.mpr ⟨qs88, List.forall_mem_cons.mpr ⟨q1844, List.forall_mem_cons.mpr ⟨q1848, List.forall_mem_cons.mpr ⟨qs89, List.forall_mem_cons.mpr ⟨qs90, List.forall_mem_cons.mpr ⟨qs91, List.forall_mem_cons.mpr ⟨qs92, List.forall_mem_cons.mpr ⟨qs93, List.forall_mem_cons.mpr ⟨qs94, List.forall_mem_cons.mpr ⟨qs95, List.forall_mem_cons.mpr ⟨qs96, List.forall_mem_cons.mpr ⟨qs97, List.forall_mem_cons.mpr ⟨qs98, List.forall_mem_cons.mpr ⟨qs99, List.forall_mem_cons.mpr ⟨qs100, List.forall_mem_cons.mpr ⟨qs101, List.forall_mem_cons.mpr ⟨qs102, List.forall_mem_cons.mpr ⟨qs103, List.forall_mem_nil _⟩⟩⟩⟩⟩⟩⟩⟩⟩⟩⟩⟩⟩⟩⟩⟩⟩⟩⟩⟩⟩⟩⟩⟩⟩⟩⟩⟩⟩⟩
theorem am_vs4 : ∀ m ∈ [152, 153, 154, 155, 156, 157, 158, 204, 205, 206, 208, 210, 212, 214, 215, 218, 219], Cond.selects (am_y m).cls (am_y m) (am_y m) ∈ lw_all := List.forall_mem_cons.mpr ⟨qs104, List.forall_mem_cons.mpr ⟨q1931, List.forall_mem_cons.mpr ⟨q1935, List.forall_mem_cons.mpr ⟨qs105, List.forall_mem_cons.mpr ⟨q1943, List.forall_mem_cons.mpr ⟨q1947, List.forall_mem_cons.mpr ⟨q1951, List.forall_mem_cons.mpr ⟨q995, List.forall_mem_cons.mpr ⟨q999, List.forall_mem_cons.mpr ⟨q1191, List.forall_mem_cons.mpr ⟨q456, List.forall_mem_cons.mpr ⟨q464, List.forall_mem_cons.mpr ⟨q448, List.forall_mem_cons.mpr ⟨q469, List.forall_mem_cons.mpr ⟨q486, List.forall_mem_cons.mpr ⟨q544, List.forall_mem_cons.mpr ⟨q561, List.forall_mem_nil _⟩⟩⟩⟩⟩⟩⟩⟩⟩⟩⟩⟩⟩⟩⟩⟩⟩
theorem am_vs_ok : ∀ m ∈ am_vs, Cond.selects (am_y m).cls (am_y m) (am_y m) ∈ lw_all := by
  intro m h
  have h2 : m ∈ ([6, 7, 8, 9, 11, 12, 13, 14, 15, 16, 17, 18, 19, 20, 21, 22, 23, 24, 25, 26, 28, 29, 30, 31, 32, 33, 34, 35, 36, 37] : List Nat) ++ ([40, 41, 42, 43, 44, 45, 46, 47, 48, 49, 50, 53, 59, 63, 66, 67, 68, 69, 71, 72, 73, 75, 78, 79, 80, 81, 82, 83, 84, 85] : List Nat) ++ ([86, 87, 88, 89, 91, 92, 93, 94, 95, 96, 97, 98, 101, 102, 103, 104, 105, 106, 107, 108, 109, 110, 111, 112, 113, 114, 115, 116, 117, 118] : List Nat) ++ ([119, 120, 121, 122, 123, 124, 125, 126, 127, 128, 129, 130, 131, 132, 133, 134, 136, 137, 138, 139, 140, 141, 144, 145, 146, 147, 148, 149, 150, 151] : List Nat) ++ ([152, 153, 154, 155, 156, 157, 158, 204, 205, 206, 208, 210, 212, 214, 215, 218, 219] : List Nat) := h
  simp only [List.mem_append] at h2
  rcases h2 with (((h2 | h2) | h2) | h2) | h2
  · exact am_vs0 m h2
  · exact am_vs1 m h2
  · exact am_vs2 m h2
  · exact am_vs3 m h2
  · exact am_vs4 m h2
/-- which method an object of a class has for a method of the interface -/
def am_dp (k ci : Nat) : Nat := match k, ci with
  | 0, 5 => 160
  | 0, 6 => 164
  | 0, 7 => 168
  | 0, 8 => 172
  | 0, 9 => 176
  | 0, 10 => 180
  | 0, 14 => 196
  | 0, 15 => 200
  | 1, 5 => 161
  | 1, 6 => 165
  | 1, 7 => 169
  | 1, 8 => 173
  | 1, 9 => 177
  | 1, 10 => 181
  | 1, 14 => 197
  | 1, 15 => 201
  | 2, 5 => 162
  | 2, 6 => 166
  | 2, 7 => 170
  | 2, 8 => 174
  | 2, 9 => 178
  | 2, 10 => 182
  | 2, 14 => 198
  | 2, 15 => 202
  | 3, 11 => 185
  | 3, 12 => 189
  | 3, 13 => 193
  | 4, 11 => 186
  | 4, 12 => 190
  | 4, 13 => 194
  | 5, 11 => 183
  | 5, 12 => 187
  | 5, 13 => 191
  | _, _ => 9999
def am_dpOk (k ci : Nat) : Prop := am_dp k ci < 221 ∧ am_y (am_dp k ci) = ⟨am_cn ci, (am_im k).name, (am_im k).desc⟩ ∧ Cond.selects (am_cn ci) (am_im k) (am_y (am_dp k ci)) ∈ lw_all ∧ am_kd (am_dp k ci) = 1
theorem q1024 : (Jvm.Cond.selects "FunDesk$Plain" ({ cls := "FunDesk$Expr", name := "look", desc := "(LFunDesk$Scope;)V" } : Jvm.MethodName) ({ cls := "FunDesk$Plain", name := "look", desc := "(LFunDesk$Scope;)V" } : Jvm.MethodName)) ∈ lw_all := lw_g (lw_at lw_m4 198 rfl) rfl
theorem am_dp0_5 : am_dpOk 0 5 := ⟨by decide, rfl, q1024, rfl⟩
theorem q1016 : (Jvm.Cond.selects "FunDesk$Operation" ({ cls := "FunDesk$Expr", name := "look", desc := "(LFunDesk$Scope;)V" } : Jvm.MethodName) ({ cls := "FunDesk$Operation", name := "look", desc := "(LFunDesk$Scope;)V" } : Jvm.MethodName)) ∈ lw_all := lw_g (lw_at lw_m4 190 rfl) rfl
theorem am_dp0_6 : am_dpOk 0 6 := ⟨by decide, rfl, q1016, rfl⟩
theorem q985 : (Jvm.Cond.selects "FunDesk$Name" ({ cls := "FunDesk$Expr", name := "look", desc := "(LFunDesk$Scope;)V" } : Jvm.MethodName) ({ cls := "FunDesk$Name", name := "look", desc := "(LFunDesk$Scope;)V" } : Jvm.MethodName)) ∈ lw_all := lw_g (lw_at lw_m4 159 rfl) rfl
theorem am_dp0_7 : am_dpOk 0 7 := ⟨by decide, rfl, q985, rfl⟩
theorem q927 : (Jvm.Cond.selects "FunDesk$Applied" ({ cls := "FunDesk$Expr", name := "look", desc := "(LFunDesk$Scope;)V" } : Jvm.MethodName) ({ cls := "FunDesk$Applied", name := "look", desc := "(LFunDesk$Scope;)V" } : Jvm.MethodName)) ∈ lw_all := lw_g (lw_at lw_m4 101 rfl) rfl
theorem am_dp0_8 : am_dpOk 0 8 := ⟨by decide, rfl, q927, rfl⟩
theorem q967 : (Jvm.Cond.selects "FunDesk$If" ({ cls := "FunDesk$Expr", name := "look", desc := "(LFunDesk$Scope;)V" } : Jvm.MethodName) ({ cls := "FunDesk$If", name := "look", desc := "(LFunDesk$Scope;)V" } : Jvm.MethodName)) ∈ lw_all := lw_g (lw_at lw_m4 141 rfl) rfl
theorem am_dp0_9 : am_dpOk 0 9 := ⟨by decide, rfl, q967, rfl⟩
theorem q935 : (Jvm.Cond.selects "FunDesk$Case" ({ cls := "FunDesk$Expr", name := "look", desc := "(LFunDesk$Scope;)V" } : Jvm.MethodName) ({ cls := "FunDesk$Case", name := "look", desc := "(LFunDesk$Scope;)V" } : Jvm.MethodName)) ∈ lw_all := lw_g (lw_at lw_m4 109 rfl) rfl
theorem am_dp0_10 : am_dpOk 0 10 := ⟨by decide, rfl, q935, rfl⟩
theorem q943 : (Jvm.Cond.selects "FunDesk$Function" ({ cls := "FunDesk$Expr", name := "look", desc := "(LFunDesk$Scope;)V" } : Jvm.MethodName) ({ cls := "FunDesk$Function", name := "look", desc := "(LFunDesk$Scope;)V" } : Jvm.MethodName)) ∈ lw_all := lw_g (lw_at lw_m4 117 rfl) rfl
theorem am_dp0_14 : am_dpOk 0 14 := ⟨by decide, rfl, q943, rfl⟩
theorem q975 : (Jvm.Cond.selects "FunDesk$Let" ({ cls := "FunDesk$Expr", name := "look", desc := "(LFunDesk$Scope;)V" } : Jvm.MethodName) ({ cls := "FunDesk$Let", name := "look", desc := "(LFunDesk$Scope;)V" } : Jvm.MethodName)) ∈ lw_all := lw_g (lw_at lw_m4 149 rfl) rfl
theorem am_dp0_15 : am_dpOk 0 15 := ⟨by decide, rfl, q975, rfl⟩
theorem q1212 : (Jvm.Cond.selects "FunDesk$Plain" ({ cls := "FunDesk$Expr", name := "infer", desc := "(LFunDesk;LFunDesk$Scope;)LFunDesk$Type;" } : Jvm.MethodName) ({ cls := "FunDesk$Plain", name := "infer", desc := "(LFunDesk;LFunDesk$Scope;)LFunDesk$Type;" } : Jvm.MethodName)) ∈ lw_all := lw_g (lw_at lw_m5 146 rfl) rfl
theorem am_dp1_5 : am_dpOk 1 5 := ⟨by decide, rfl, q1212, rfl⟩
theorem q1202 : (Jvm.Cond.selects "FunDesk$Operation" ({ cls := "FunDesk$Expr", name := "infer", desc := "(LFunDesk;LFunDesk$Scope;)LFunDesk$Type;" } : Jvm.MethodName) ({ cls := "FunDesk$Operation", name := "infer", desc := "(LFunDesk;LFunDesk$Scope;)LFunDesk$Type;" } : Jvm.MethodName)) ∈ lw_all := lw_g (lw_at lw_m5 136 rfl) rfl
theorem am_dp1_6 : am_dpOk 1 6 := ⟨by decide, rfl, q1202, rfl⟩
theorem q1184 : (Jvm.Cond.selects "FunDesk$Name" ({ cls := "FunDesk$Expr", name := "infer", desc := "(LFunDesk;LFunDesk$Scope;)LFunDesk$Type;" } : Jvm.MethodName) ({ cls := "FunDesk$Name", name := "infer", desc := "(LFunDesk;LFunDesk$Scope;)LFunDesk$Type;" } : Jvm.MethodName)) ∈ lw_all := lw_g (lw_at lw_m5 118 rfl) rfl
theorem am_dp1_7 : am_dpOk 1 7 := ⟨by decide, rfl, q1184, rfl⟩
theorem q1059 : (Jvm.Cond.selects "FunDesk$Applied" ({ cls := "FunDesk$Expr", name := "infer", desc := "(LFunDesk;LFunDesk$Scope;)LFunDesk$Type;" } : Jvm.MethodName) ({ cls := "FunDesk$Applied", name := "infer", desc := "(LFunDesk;LFunDesk$Scope;)LFunDesk$Type;" } : Jvm.MethodName)) ∈ lw_all := lw_g (lw_at lw_m4 233 rfl) rfl
theorem am_dp1_8 : am_dpOk 1 8 := ⟨by decide, rfl, q1059, rfl⟩
theorem q1164 : (Jvm.Cond.selects "FunDesk$If" ({ cls := "FunDesk$Expr", name := "infer", desc := "(LFunDesk;LFunDesk$Scope;)LFunDesk$Type;" } : Jvm.MethodName) ({ cls := "FunDesk$If", name := "infer", desc := "(LFunDesk;LFunDesk$Scope;)LFunDesk$Type;" } : Jvm.MethodName)) ∈ lw_all := lw_g (lw_at lw_m5 98 rfl) rfl
theorem am_dp1_9 : am_dpOk 1 9 := ⟨by decide, rfl, q1164, rfl⟩
theorem q1109 : (Jvm.Cond.selects "FunDesk$Case" ({ cls := "FunDesk$Expr", name := "infer", desc := "(LFunDesk;LFunDesk$Scope;)LFunDesk$Type;" } : Jvm.MethodName) ({ cls := "FunDesk$Case", name := "infer", desc := "(LFunDesk;LFunDesk$Scope;)LFunDesk$Type;" } : Jvm.MethodName)) ∈ lw_all := lw_g (lw_at lw_m5 43 rfl) rfl
theorem am_dp1_10 : am_dpOk 1 10 := ⟨by decide, rfl, q1109, rfl⟩
theorem q1154 : (Jvm.Cond.selects "FunDesk$Function" ({ cls := "FunDesk$Expr", name := "infer", desc := "(LFunDesk;LFunDesk$Scope;)LFunDesk$Type;" } : Jvm.MethodName) ({ cls := "FunDesk$Function", name := "infer", desc := "(LFunDesk;LFunDesk$Scope;)LFunDesk$Type;" } : Jvm.MethodName)) ∈ lw_all := lw_g (lw_at lw_m5 88 rfl) rfl
theorem am_dp1_14 : am_dpOk 1 14 := ⟨by decide, rfl, q1154, rfl⟩
theorem q1171 : (Jvm.Cond.selects "FunDesk$Let" ({ cls := "FunDesk$Expr", name := "infer", desc := "(LFunDesk;LFunDesk$Scope;)LFunDesk$Type;" } : Jvm.MethodName) ({ cls := "FunDesk$Let", name := "infer", desc := "(LFunDesk;LFunDesk$Scope;)LFunDesk$Type;" } : Jvm.MethodName)) ∈ lw_all := lw_g (lw_at lw_m5 105 rfl) rfl
theorem am_dp1_15 : am_dpOk 1 15 := ⟨by decide, rfl, q1171, rfl⟩
theorem q1289 : (Jvm.Cond.selects "FunDesk$Plain" ({ cls := "FunDesk$Expr", name := "compile", desc := "(LFunDesk;LFunDesk$Scope;)V" } : Jvm.MethodName) ({ cls := "FunDesk$Plain", name := "compile", desc := "(LFunDesk;LFunDesk$Scope;)V" } : Jvm.MethodName)) ∈ lw_all := lw_g (lw_at lw_m5 223 rfl) rfl
theorem am_dp2_5 : am_dpOk 2 5 := ⟨by decide, rfl, q1289, rfl⟩
theorem q1282 : (Jvm.Cond.selects "FunDesk$Operation" ({ cls := "FunDesk$Expr", name := "compile", desc := "(LFunDesk;LFunDesk$Scope;)V" } : Jvm.MethodName) ({ cls := "FunDesk$Operation", name := "compile", desc := "(LFunDesk;LFunDesk$Scope;)V" } : Jvm.MethodName)) ∈ lw_all := lw_g (lw_at lw_m5 216 rfl) rfl
theorem am_dp2_6 : am_dpOk 2 6 := ⟨by decide, rfl, q1282, rfl⟩
theorem q1271 : (Jvm.Cond.selects "FunDesk$Name" ({ cls := "FunDesk$Expr", name := "compile", desc := "(LFunDesk;LFunDesk$Scope;)V" } : Jvm.MethodName) ({ cls := "FunDesk$Name", name := "compile", desc := "(LFunDesk;LFunDesk$Scope;)V" } : Jvm.MethodName)) ∈ lw_all := lw_g (lw_at lw_m5 205 rfl) rfl
theorem am_dp2_7 : am_dpOk 2 7 := ⟨by decide, rfl, q1271, rfl⟩
theorem q1230 : (Jvm.Cond.selects "FunDesk$Applied" ({ cls := "FunDesk$Expr", name := "compile", desc := "(LFunDesk;LFunDesk$Scope;)V" } : Jvm.MethodName) ({ cls := "FunDesk$Applied", name := "compile", desc := "(LFunDesk;LFunDesk$Scope;)V" } : Jvm.MethodName)) ∈ lw_all := lw_g (lw_at lw_m5 164 rfl) rfl
theorem am_dp2_8 : am_dpOk 2 8 := ⟨by decide, rfl, q1230, rfl⟩
theorem q1257 : (Jvm.Cond.selects "FunDesk$If" ({ cls := "FunDesk$Expr", name := "compile", desc := "(LFunDesk;LFunDesk$Scope;)V" } : Jvm.MethodName) ({ cls := "FunDesk$If", name := "compile", desc := "(LFunDesk;LFunDesk$Scope;)V" } : Jvm.MethodName)) ∈ lw_all := lw_g (lw_at lw_m5 191 rfl) rfl
theorem am_dp2_9 : am_dpOk 2 9 := ⟨by decide, rfl, q1257, rfl⟩
theorem q1237 : (Jvm.Cond.selects "FunDesk$Case" ({ cls := "FunDesk$Expr", name := "compile", desc := "(LFunDesk;LFunDesk$Scope;)V" } : Jvm.MethodName) ({ cls := "FunDesk$Case", name := "compile", desc := "(LFunDesk;LFunDesk$Scope;)V" } : Jvm.MethodName)) ∈ lw_all := lw_g (lw_at lw_m5 171 rfl) rfl
theorem am_dp2_10 : am_dpOk 2 10 := ⟨by decide, rfl, q1237, rfl⟩
theorem q1244 : (Jvm.Cond.selects "FunDesk$Function" ({ cls := "FunDesk$Expr", name := "compile", desc := "(LFunDesk;LFunDesk$Scope;)V" } : Jvm.MethodName) ({ cls := "FunDesk$Function", name := "compile", desc := "(LFunDesk;LFunDesk$Scope;)V" } : Jvm.MethodName)) ∈ lw_all := lw_g (lw_at lw_m5 178 rfl) rfl
theorem am_dp2_14 : am_dpOk 2 14 := ⟨by decide, rfl, q1244, rfl⟩
theorem q1264 : (Jvm.Cond.selects "FunDesk$Let" ({ cls := "FunDesk$Expr", name := "compile", desc := "(LFunDesk;LFunDesk$Scope;)V" } : Jvm.MethodName) ({ cls := "FunDesk$Let", name := "compile", desc := "(LFunDesk;LFunDesk$Scope;)V" } : Jvm.MethodName)) ∈ lw_all := lw_g (lw_at lw_m5 198 rfl) rfl
theorem am_dp2_15 : am_dpOk 2 15 := ⟨by decide, rfl, q1264, rfl⟩
theorem q1047 : (Jvm.Cond.selects "FunDesk$Same" ({ cls := "FunDesk$Pattern", name := "names", desc := "(LFunDesk$Scope;)LFunDesk$Scope;" } : Jvm.MethodName) ({ cls := "FunDesk$Same", name := "names", desc := "(LFunDesk$Scope;)LFunDesk$Scope;" } : Jvm.MethodName)) ∈ lw_all := lw_g (lw_at lw_m4 221 rfl) rfl
theorem am_dp3_11 : am_dpOk 3 11 := ⟨by decide, rfl, q1047, rfl⟩
theorem q1033 : (Jvm.Cond.selects "FunDesk$Any" ({ cls := "FunDesk$Pattern", name := "names", desc := "(LFunDesk$Scope;)LFunDesk$Scope;" } : Jvm.MethodName) ({ cls := "FunDesk$Any", name := "names", desc := "(LFunDesk$Scope;)LFunDesk$Scope;" } : Jvm.MethodName)) ∈ lw_all := lw_g (lw_at lw_m4 207 rfl) rfl
theorem am_dp3_12 : am_dpOk 3 12 := ⟨by decide, rfl, q1033, rfl⟩
theorem q1040 : (Jvm.Cond.selects "FunDesk$Both" ({ cls := "FunDesk$Pattern", name := "names", desc := "(LFunDesk$Scope;)LFunDesk$Scope;" } : Jvm.MethodName) ({ cls := "FunDesk$Both", name := "names", desc := "(LFunDesk$Scope;)LFunDesk$Scope;" } : Jvm.MethodName)) ∈ lw_all := lw_g (lw_at lw_m4 214 rfl) rfl
theorem am_dp3_13 : am_dpOk 3 13 := ⟨by decide, rfl, q1040, rfl⟩
theorem q1139 : (Jvm.Cond.selects "FunDesk$Same" ({ cls := "FunDesk$Pattern", name := "infer", desc := "(LFunDesk;)LFunDesk$Type;" } : Jvm.MethodName) ({ cls := "FunDesk$Same", name := "infer", desc := "(LFunDesk;)LFunDesk$Type;" } : Jvm.MethodName)) ∈ lw_all := lw_g (lw_at lw_m5 73 rfl) rfl
theorem am_dp4_11 : am_dpOk 4 11 := ⟨by decide, rfl, q1139, rfl⟩
theorem q1123 : (Jvm.Cond.selects "FunDesk$Any" ({ cls := "FunDesk$Pattern", name := "infer", desc := "(LFunDesk;)LFunDesk$Type;" } : Jvm.MethodName) ({ cls := "FunDesk$Any", name := "infer", desc := "(LFunDesk;)LFunDesk$Type;" } : Jvm.MethodName)) ∈ lw_all := lw_g (lw_at lw_m5 57 rfl) rfl
theorem am_dp4_12 : am_dpOk 4 12 := ⟨by decide, rfl, q1123, rfl⟩
theorem q1129 : (Jvm.Cond.selects "FunDesk$Both" ({ cls := "FunDesk$Pattern", name := "infer", desc := "(LFunDesk;)LFunDesk$Type;" } : Jvm.MethodName) ({ cls := "FunDesk$Both", name := "infer", desc := "(LFunDesk;)LFunDesk$Type;" } : Jvm.MethodName)) ∈ lw_all := lw_g (lw_at lw_m5 63 rfl) rfl
theorem am_dp4_13 : am_dpOk 4 13 := ⟨by decide, rfl, q1129, rfl⟩
theorem q549 : (Jvm.Cond.selects "FunDesk$Same" ({ cls := "FunDesk$Pattern", name := "fits", desc := "(LFunDesk;LFunDesk$Value;)Z" } : Jvm.MethodName) ({ cls := "FunDesk$Same", name := "fits", desc := "(LFunDesk;LFunDesk$Value;)Z" } : Jvm.MethodName)) ∈ lw_all := lw_g (lw_at lw_m2 203 rfl) rfl
theorem am_dp5_11 : am_dpOk 5 11 := ⟨by decide, rfl, q549, rfl⟩
theorem q528 : (Jvm.Cond.selects "FunDesk$Any" ({ cls := "FunDesk$Pattern", name := "fits", desc := "(LFunDesk;LFunDesk$Value;)Z" } : Jvm.MethodName) ({ cls := "FunDesk$Any", name := "fits", desc := "(LFunDesk;LFunDesk$Value;)Z" } : Jvm.MethodName)) ∈ lw_all := lw_g (lw_at lw_m2 182 rfl) rfl
theorem am_dp5_12 : am_dpOk 5 12 := ⟨by decide, rfl, q528, rfl⟩
theorem q536 : (Jvm.Cond.selects "FunDesk$Both" ({ cls := "FunDesk$Pattern", name := "fits", desc := "(LFunDesk;LFunDesk$Value;)Z" } : Jvm.MethodName) ({ cls := "FunDesk$Both", name := "fits", desc := "(LFunDesk;LFunDesk$Value;)Z" } : Jvm.MethodName)) ∈ lw_all := lw_g (lw_at lw_m2 190 rfl) rfl
theorem am_dp5_13 : am_dpOk 5 13 := ⟨by decide, rfl, q536, rfl⟩
theorem am_dpAll (k ci : Nat) (h : am_imp k ci = true) : am_dpOk k ci := by
  unfold am_imp at h
  split at h
  · have hk : k = 0 ∨ k = 1 ∨ k = 2 := by omega
    have hc : ci = 5 ∨ ci = 6 ∨ ci = 7 ∨ ci = 8 ∨ ci = 9 ∨ ci = 10 ∨ ci = 14 ∨ ci = 15 := by simp [am_into] at h; omega
    rcases hk with rfl | rfl | rfl <;> rcases hc with rfl | rfl | rfl | rfl | rfl | rfl | rfl | rfl
    · exact am_dp0_5
    · exact am_dp0_6
    · exact am_dp0_7
    · exact am_dp0_8
    · exact am_dp0_9
    · exact am_dp0_10
    · exact am_dp0_14
    · exact am_dp0_15
    · exact am_dp1_5
    · exact am_dp1_6
    · exact am_dp1_7
    · exact am_dp1_8
    · exact am_dp1_9
    · exact am_dp1_10
    · exact am_dp1_14
    · exact am_dp1_15
    · exact am_dp2_5
    · exact am_dp2_6
    · exact am_dp2_7
    · exact am_dp2_8
    · exact am_dp2_9
    · exact am_dp2_10
    · exact am_dp2_14
    · exact am_dp2_15
  · simp only [Bool.and_eq_true, decide_eq_true_eq] at h
    have hk : k = 3 ∨ k = 4 ∨ k = 5 := by omega
    have hc : ci = 11 ∨ ci = 12 ∨ ci = 13 := by have h2 := h.2; simp [am_into] at h2; omega
    rcases hk with rfl | rfl | rfl <;> rcases hc with rfl | rfl | rfl
    · exact am_dp3_11
    · exact am_dp3_12
    · exact am_dp3_13
    · exact am_dp4_11
    · exact am_dp4_12
    · exact am_dp4_13
    · exact am_dp5_11
    · exact am_dp5_12
    · exact am_dp5_13
theorem q147 : (Jvm.Cond.methodLink "FunDesk" (1 : Nat) ({ cls := "java/lang/Object", name := "<init>", desc := "()V" } : Jvm.MethodName)) ∈ lw_all := lw_g (lw_at lw_m1 41 rfl) rfl
theorem q1322 : (Jvm.Cond.methodLink "FunDesk" (171 : Nat) ({ cls := "FunDesk$Sort", name := "ordinal", desc := "()I" } : Jvm.MethodName)) ∈ lw_all := lw_g (lw_at lw_m6 16 rfl) rfl
theorem q384 : (Jvm.Cond.methodLink "FunDesk" (428 : Nat) ({ cls := "FunDesk$Op", name := "ordinal", desc := "()I" } : Jvm.MethodName)) ∈ lw_all := lw_g (lw_at lw_m2 38 rfl) rfl
theorem q818 : (Jvm.Cond.methodLink "FunDesk$Case" (3 : Nat) ({ cls := "java/lang/Object", name := "<init>", desc := "()V" } : Jvm.MethodName)) ∈ lw_all := lw_g (lw_at lw_m3 232 rfl) rfl
theorem q474 : (Jvm.Cond.methodLink "FunDesk$Env" (1 : Nat) ({ cls := "java/lang/Object", name := "<init>", desc := "()V" } : Jvm.MethodName)) ∈ lw_all := lw_g (lw_at lw_m2 128 rfl) rfl
theorem q157 : (Jvm.Cond.methodLink "FunDesk$Type" (1 : Nat) ({ cls := "java/lang/Object", name := "<init>", desc := "()V" } : Jvm.MethodName)) ∈ lw_all := lw_g (lw_at lw_m1 51 rfl) rfl
theorem q1407 : (Jvm.Cond.methodLink "FunDeskModel" (1 : Nat) ({ cls := "java/lang/Object", name := "<init>", desc := "()V" } : Jvm.MethodName)) ∈ lw_all := lw_g (lw_at lw_m6 101 rfl) rfl
theorem q197 : (Jvm.Cond.methodLink "java/lang/Record" (1 : Nat) ({ cls := "java/lang/Object", name := "<init>", desc := "()V" } : Jvm.MethodName)) ∈ lw_all := lw_g (lw_at lw_m1 91 rfl) rfl
def am_ol : List (Nat × Nat) := [(1, 1), (10, 3), (21, 1), (2, 1), (4, 1), (40, 1)]
theorem am_ol_ok : ∀ x ∈ am_ol, Cond.methodLink (am_on x.1) x.2 objectInit ∈ lw_all := List.forall_mem_cons.mpr ⟨q147, List.forall_mem_cons.mpr ⟨q818, List.forall_mem_cons.mpr ⟨q474, List.forall_mem_cons.mpr ⟨q157, List.forall_mem_cons.mpr ⟨q1407, List.forall_mem_cons.mpr ⟨q197, List.forall_mem_nil _⟩⟩⟩⟩⟩⟩
def am_od : List (Nat × Nat × Nat) := [(1, 171, 30), (1, 428, 31)]
theorem q148 : (Jvm.Cond.instanceMethod ({ cls := "java/lang/Object", name := "<init>", desc := "()V" } : Jvm.MethodName)) ∈ lw_all := lw_g (lw_at lw_m1 42 rfl) rfl
theorem q388 : (Jvm.Cond.instanceMethod ({ cls := "java/lang/Enum", name := "ordinal", desc := "()I" } : Jvm.MethodName)) ∈ lw_all := lw_g (lw_at lw_m2 42 rfl) rfl
theorem q1106 : (Jvm.Cond.methodLink "FunDesk" (121 : Nat) ({ cls := "java/lang/Math", name := "min", desc := "(II)I" } : Jvm.MethodName)) ∈ lw_all := lw_g (lw_at lw_m5 40 rfl) rfl
theorem q1107 : (Jvm.Cond.static ({ cls := "java/lang/Math", name := "min", desc := "(II)I" } : Jvm.MethodName)) ∈ lw_all := lw_g (lw_at lw_m5 41 rfl) rfl
theorem q133 : (Jvm.Cond.initialized "java/lang/Math") ∈ lw_all := lw_g (lw_at lw_m1 27 rfl) rfl
theorem q385 : (Jvm.Cond.sameMethod "FunDesk$Op" "java/lang/Enum" "ordinal" "()I") ∈ lw_all := lw_g (lw_at lw_m2 39 rfl) rfl
theorem q387 : (Jvm.Cond.selects "FunDesk$Op" ({ cls := "FunDesk$Op", name := "ordinal", desc := "()I" } : Jvm.MethodName) ({ cls := "java/lang/Enum", name := "ordinal", desc := "()I" } : Jvm.MethodName)) ∈ lw_all := lw_g (lw_at lw_m2 41 rfl) rfl
theorem q1108 : (Jvm.Cond.code ({ cls := "java/lang/Math", name := "min", desc := "(II)I" } : Jvm.MethodName) prog_34_method_69_code (2 : Nat) (Option.some Jvm.ClassFile.FieldType.int)) ∈ lw_all := lw_g (lw_at lw_m5 42 rfl) rfl
theorem q149 : (Jvm.Cond.code ({ cls := "java/lang/Object", name := "<init>", desc := "()V" } : Jvm.MethodName) object_method_1_code (1 : Nat) (Option.none : Option Jvm.ClassFile.FieldType)) ∈ lw_all := lw_g (lw_at lw_m1 43 rfl) rfl
theorem q109 : (Jvm.Cond.initialized "java/lang/Enum") ∈ lw_all := lw_g (lw_at lw_m1 3 rfl) rfl
theorem q389 : (Jvm.Cond.code ({ cls := "java/lang/Enum", name := "ordinal", desc := "()I" } : Jvm.MethodName) prog_29_method_2_code (1 : Nat) (Option.some Jvm.ClassFile.FieldType.int)) ∈ lw_all := lw_g (lw_at lw_m2 43 rfl) rfl
theorem q1960 : (Jvm.Cond.fieldLink "java/lang/Enum" (7 : Nat) "java/lang/Enum" "ordinal" "I") ∈ lw_all := lw_g (lw_at lw_m8 174 rfl) rfl
theorem q1323 : (Jvm.Cond.sameMethod "FunDesk$Sort" "java/lang/Enum" "ordinal" "()I") ∈ lw_all := lw_g (lw_at lw_m6 17 rfl) rfl
theorem q1324 : (Jvm.Cond.selects "FunDesk$Sort" ({ cls := "FunDesk$Sort", name := "ordinal", desc := "()I" } : Jvm.MethodName) ({ cls := "java/lang/Enum", name := "ordinal", desc := "()I" } : Jvm.MethodName)) ∈ lw_all := lw_g (lw_at lw_m6 18 rfl) rfl
/-- the check of one instruction: o: the class that the code stands in, ini: whether it is a constructor -/
def am_ck1 (o : Nat) (ini : Bool) (C : List (Nat × Nat × Instr)) (q : Nat × Nat × Instr) : Bool := match q.2.2 with
  | .getfield f => decide (f / 128 < 28) && (am_fl.contains (o, q.2.1, f) || am_fn.contains (o, q.2.1, f))
  | .putfield f => decide (f / 128 < 28) && ((am_fl.contains (o, q.2.1, f) && (!(am_fld f).2.2.2 || (ini && (am_fld f).1 == am_on o))) || (am_fn.contains (o, q.2.1, f) && !(am_fld f).2.2.2))
  | .getstatic i => am_sl.contains (o, q.2.1, i) && decide (i < 24)
  | .invokevirtual m => if m = 9998 then am_od.contains (o, q.2.1, 30) || am_od.contains (o, q.2.1, 31) else decide (m < 221) && am_vs.contains m && am_kd m == 1 && (am_ml.contains (o, q.2.1, m) || am_mn.contains (o, q.2.1, m))
  | .invokestatic m => if m = 9996 then o == 1 && q.2.1 == 121 else decide (m < 221) && am_kd m == 0 && (am_ml.contains (o, q.2.1, m) || am_mn.contains (o, q.2.1, m))
  | .invokespecial m => if m = 9999 then am_ol.contains (o, q.2.1) else if m = 9997 then true else decide (m < 221) && am_kd m == 2 && (am_ml.contains (o, q.2.1, m) || am_mn.contains (o, q.2.1, m))
  | .invokeinterface i _ => am_il.contains (o, q.2.1, i) && decide (i < 6)
  | .new c => am_kl.contains (o, q.2.1, c) && decide (c < 28) && (!am_exc c || (o == 1 && C.lookup (q.1 + 3) == some (0, .dup) && C.lookup (q.1 + 4) == some (am_xi c, .invokespecial 9997) && C.lookup (q.1 + 7) == some (0, .athrow)))
  | .anewarray k => am_kl.contains (o, q.2.1, 100 + k) && decide (5 ≤ k) && decide (k < 11)
  | .checkcast c => am_kl.contains (o, q.2.1, c) && decide (c < 28)
  | .instanceof c => am_kl.contains (o, q.2.1, c) && decide (c < 28)
  | .ldc c => am_ck.contains (o, q.2.1, c) && c == 3
  | .ldc2_w c => am_ck.contains (o, q.2.1, c) && c != 3 && decide (c < 7)
  | _ => true
def am_chk (b : ByteArray) (o : Nat) (ini : Bool) (C : List (Nat × Nat × Instr)) : Bool := C.all fun q => decide (decode b q.1 = .ok (am_raw q.1 q.2.1 q.2.2, am_ln q.2.1 q.2.2)) && am_ck1 o ini C q
