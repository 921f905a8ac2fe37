/-! names, field tables, layout: printed by gen_names.py -/
def F_RC : u_T := fun k => match k with
  | 0 => ("RowCode", "numbers", "[I", true)
  | 1 => ("RowCode", "arguments", "[I", true)
  | 2 => ("RowCode", "many", "I", false)
  | 3 => ("RowCode", "right", "Z", false)
  | 4 => ("RowCode", "code", "LRowCode$Code;", true)
  | 5 => ("RowCode", "better", "LRowCode$Better;", true)
  | 6 => ("RowCode", "generator", "LRowCode$Generator;", true)
  | 7 => ("RowCode", "loader", "LRowCode$Loader;", true)
  | 8 => ("RowCode", "labelAt", "[I", true)
  | 9 => ("RowCode", "depths", "[I", true)
  | 10 => ("RowCode", "waits", "[I", true)
  | 11 => ("RowCode", "waitsDeep", "[I", true)
  | 12 => ("RowCode", "waiting", "I", false)
  | 13 => ("RowCode", "fails", "Z", false)
  | 14 => ("RowCode", "seen", "[I", true)
  | 15 => ("RowCode", "path", "[I", true)
  | 16 => ("RowCode", "next", "[I", true)
  | 17 => ("RowCode", "store", "[I", true)
  | 18 => ("RowCode", "a", "I", false)
  | 19 => ("RowCode", "b", "I", false)
  | 20 => ("RowCode", "c", "I", false)
  | 21 => ("RowCode", "left", "I", false)
  | 22 => ("RowCode", "told", "I", false)
  | _ => ("RowCode", "row", "[I", false)
def t_RC : Nat → FieldType := fun k => match k with
  | 0 => .array .int
  | 1 => .array .int
  | 2 => .int
  | 3 => .boolean
  | 4 => .object "RowCode$Code"
  | 5 => .object "RowCode$Better"
  | 6 => .object "RowCode$Generator"
  | 7 => .object "RowCode$Loader"
  | 8 => .array .int
  | 9 => .array .int
  | 10 => .array .int
  | 11 => .array .int
  | 12 => .int
  | 13 => .boolean
  | 14 => .array .int
  | 15 => .array .int
  | 16 => .array .int
  | 17 => .array .int
  | 18 => .int
  | 19 => .int
  | 20 => .int
  | 21 => .int
  | 22 => .int
  | _ => .array .int
def F_CD : u_T := fun k => match k with
  | 0 => ("RowCode$Code", "code", "[I", true)
  | 1 => ("RowCode$Code", "many", "I", false)
  | _ => ("RowCode$Code", "labels", "I", false)
def t_CD : Nat → FieldType := fun k => match k with
  | 0 => .array .int
  | 1 => .int
  | _ => .int
def F_BT : u_T := fun k => match k with
  | 0 => ("RowCode$Better", "from", "[I", false)
  | 1 => ("RowCode$Better", "to", "[I", false)
  | 2 => ("RowCode$Better", "n", "I", false)
  | 3 => ("RowCode$Better", "many", "I", false)
  | 4 => ("RowCode$Better", "live", "[Z", false)
  | 5 => ("RowCode$Better", "where", "[I", false)
  | 6 => ("RowCode$Better", "follow", "[I", false)
  | _ => ("RowCode$Better", "following", "I", false)
def t_BT : Nat → FieldType := fun k => match k with
  | 0 => .array .int
  | 1 => .array .int
  | 2 => .int
  | 3 => .int
  | 4 => .array .boolean
  | 5 => .array .int
  | 6 => .array .int
  | _ => .int
def F_GN : u_T := fun k => match k with
  | 0 => ("RowCode$Generator", "out", "LRowCode$Row;", true)
  | 1 => ("RowCode$Generator", "kinds", "[I", false)
  | 2 => ("RowCode$Generator", "values", "[I", false)
  | 3 => ("RowCode$Generator", "depth", "I", false)
  | 4 => ("RowCode$Generator", "most", "I", false)
  | 5 => ("RowCode$Generator", "depths", "[I", false)
  | 6 => ("RowCode$Generator", "reached", "Z", false)
  | 7 => ("RowCode$Generator", "great", "[I", false)
  | 8 => ("RowCode$Generator", "greatMany", "I", false)
  | 9 => ("RowCode$Generator", "labels", "I", false)
  | 10 => ("RowCode$Generator", "ways", "[I", false)
  | 11 => ("RowCode$Generator", "deeps", "[I", false)
  | 12 => ("RowCode$Generator", "placeOf", "[I", false)
  | 13 => ("RowCode$Generator", "been", "[Z", false)
  | 14 => ("RowCode$Generator", "wayMany", "I", false)
  | _ => ("RowCode$Generator", "same", "Z", false)
def t_GN : Nat → FieldType := fun k => match k with
  | 0 => .object "RowCode$Row"
  | 1 => .array .int
  | 2 => .array .int
  | 3 => .int
  | 4 => .int
  | 5 => .array .int
  | 6 => .boolean
  | 7 => .array .int
  | 8 => .int
  | 9 => .int
  | 10 => .array .int
  | 11 => .array .int
  | 12 => .array .int
  | 13 => .array .boolean
  | 14 => .int
  | _ => .boolean
def F_RW : u_T := fun k => match k with
  | 0 => ("RowCode$Row", "bytes", "[B", false)
  | _ => ("RowCode$Row", "many", "I", false)
def t_RW : Nat → FieldType := fun k => match k with
  | 0 => .array .byte
  | _ => .int
def F_LD : u_T := fun k => match k with
  | 0 => ("RowCode$Loader", "words", "[I", false)
  | 1 => ("RowCode$Loader", "many", "I", false)
  | 2 => ("RowCode$Loader", "labels", "[I", false)
  | 3 => ("RowCode$Loader", "waits", "[I", false)
  | 4 => ("RowCode$Loader", "waiting", "I", false)
  | 5 => ("RowCode$Loader", "at", "I", false)
  | _ => ("RowCode$Loader", "text", "LRowCode$Row;", false)
def t_LD : Nat → FieldType := fun k => match k with
  | 0 => .array .int
  | 1 => .int
  | 2 => .array .int
  | 3 => .array .int
  | 4 => .int
  | 5 => .int
  | _ => .object "RowCode$Row"
def F_MD : u_T := fun k => match k with
  | 0 => ("RowCodeModel", "thrown", "I", false)
  | 1 => ("RowCodeModel", "size", "I", false)
  | 2 => ("RowCodeModel", "numbers", "[I", true)
  | 3 => ("RowCodeModel", "args", "[I", true)
  | 4 => ("RowCodeModel", "locals", "[I", true)
  | 5 => ("RowCodeModel", "words", "[I", true)
  | 6 => ("RowCodeModel", "value", "I", false)
  | 7 => ("RowCodeModel", "fuel", "I", false)
  | 8 => ("RowCodeModel", "heights", "[I", true)
  | 9 => ("RowCodeModel", "gone", "[Z", true)
  | 10 => ("RowCodeModel", "row", "[I", true)
  | _ => ("RowCodeModel", "high", "I", false)
def t_MD : Nat → FieldType := fun k => match k with
  | 0 => .int
  | 1 => .int
  | 2 => .array .int
  | 3 => .array .int
  | 4 => .array .int
  | 5 => .array .int
  | 6 => .int
  | 7 => .int
  | 8 => .array .int
  | 9 => .array .boolean
  | 10 => .array .int
  | _ => .int
abbrev classes : List vw_C := [("RowCode", F_RC, 24), ("RowCode$Code", F_CD, 3), ("RowCode$Better", F_BT, 8), ("RowCode$Generator", F_GN, 16), ("RowCode$Row", F_RW, 2), ("RowCode$Loader", F_LD, 7), ("RowCodeModel", F_MD, 12)]
def CN : Nat → String := fun k => match k with
  | 0 => "RowCode"
  | 1 => "RowCode$Code"
  | 2 => "RowCode$Better"
  | 3 => "RowCode$Generator"
  | 4 => "RowCode$Row"
  | 5 => "RowCode$Loader"
  | _ => "RowCodeModel"
def FT : Nat → u_T := fun k => match k with
  | 0 => F_RC
  | 1 => F_CD
  | 2 => F_BT
  | 3 => F_GN
  | 4 => F_RW
  | 5 => F_LD
  | _ => F_MD
def TY : Nat → Nat → FieldType := fun k => match k with
  | 0 => t_RC
  | 1 => t_CD
  | 2 => t_BT
  | 3 => t_GN
  | 4 => t_RW
  | 5 => t_LD
  | _ => t_MD
def NF : Nat → Nat := fun k => match k with
  | 0 => 24
  | 1 => 3
  | 2 => 8
  | 3 => 16
  | 4 => 2
  | 5 => 7
  | _ => 12
theorem n_RC : ∀ a, a < 24 → ∀ b, b < 24 → a ≠ b → (F_RC a).2.1 ≠ (F_RC b).2.1 := by decide +kernel
theorem t_RC_ok : ∀ k, k < 24 → parseFieldDescriptor (F_RC k).2.2.1 = some (t_RC k) := by decide +kernel
theorem i_RC : ∀ w ∈ u_ws "RowCode" F_RC 24, w ∈ lw_tbl := by
  intro w hw
  obtain ⟨j, hj, rfl⟩ := List.mem_map.mp hw
  have hj := List.mem_range.mp hj
  rcases (show j = 0 ∨ j = 1 ∨ j = 2 ∨ j = 3 ∨ j = 4 ∨ j = 5 ∨ j = 6 ∨ j = 7 ∨ j = 8 ∨ j = 9 ∨ j = 10 ∨ j = 11 ∨ j = 12 ∨ j = 13 ∨ j = 14 ∨ j = 15 ∨ j = 16 ∨ j = 17 ∨ j = 18 ∨ j = 19 ∨ j = 20 ∨ j = 21 ∨ j = 22 ∨ j = 23 by omega) with rfl | rfl | rfl | rfl | rfl | rfl | rfl | rfl | rfl | rfl | rfl | rfl | rfl | rfl | rfl | rfl | rfl | rfl | rfl | rfl | rfl | rfl | rfl | rfl
  · exact tm_211
  · exact tm_213
  · exact tm_215
  · exact tm_217
  · exact tm_219
  · exact tm_221
  · exact tm_223
  · exact tm_225
  · exact tm_227
  · exact tm_229
  · exact tm_231
  · exact tm_233
  · exact tm_235
  · exact tm_237
  · exact tm_239
  · exact tm_241
  · exact tm_243
  · exact tm_245
  · exact tm_247
  · exact tm_249
  · exact tm_251
  · exact tm_253
  · exact tm_255
  · exact tm_257
theorem n_CD : ∀ a, a < 3 → ∀ b, b < 3 → a ≠ b → (F_CD a).2.1 ≠ (F_CD b).2.1 := by decide +kernel
theorem t_CD_ok : ∀ k, k < 3 → parseFieldDescriptor (F_CD k).2.2.1 = some (t_CD k) := by decide +kernel
theorem i_CD : ∀ w ∈ u_ws "RowCode$Code" F_CD 3, w ∈ lw_tbl := by
  intro w hw
  obtain ⟨j, hj, rfl⟩ := List.mem_map.mp hw
  have hj := List.mem_range.mp hj
  rcases (show j = 0 ∨ j = 1 ∨ j = 2 by omega) with rfl | rfl | rfl
  · exact tm_44
  · exact tm_46
  · exact tm_48
theorem n_BT : ∀ a, a < 8 → ∀ b, b < 8 → a ≠ b → (F_BT a).2.1 ≠ (F_BT b).2.1 := by decide +kernel
theorem t_BT_ok : ∀ k, k < 8 → parseFieldDescriptor (F_BT k).2.2.1 = some (t_BT k) := by decide +kernel
theorem i_BT : ∀ w ∈ u_ws "RowCode$Better" F_BT 8, w ∈ lw_tbl := by
  intro w hw
  obtain ⟨j, hj, rfl⟩ := List.mem_map.mp hw
  have hj := List.mem_range.mp hj
  rcases (show j = 0 ∨ j = 1 ∨ j = 2 ∨ j = 3 ∨ j = 4 ∨ j = 5 ∨ j = 6 ∨ j = 7 by omega) with rfl | rfl | rfl | rfl | rfl | rfl | rfl | rfl
  · exact tm_66
  · exact tm_68
  · exact tm_70
  · exact tm_72
  · exact tm_74
  · exact tm_76
  · exact tm_78
  · exact tm_80
theorem n_GN : ∀ a, a < 16 → ∀ b, b < 16 → a ≠ b → (F_GN a).2.1 ≠ (F_GN b).2.1 := by decide +kernel
theorem t_GN_ok : ∀ k, k < 16 → parseFieldDescriptor (F_GN k).2.2.1 = some (t_GN k) := by decide +kernel
theorem i_GN : ∀ w ∈ u_ws "RowCode$Generator" F_GN 16, w ∈ lw_tbl := by
  intro w hw
  obtain ⟨j, hj, rfl⟩ := List.mem_map.mp hw
  have hj := List.mem_range.mp hj
  rcases (show j = 0 ∨ j = 1 ∨ j = 2 ∨ j = 3 ∨ j = 4 ∨ j = 5 ∨ j = 6 ∨ j = 7 ∨ j = 8 ∨ j = 9 ∨ j = 10 ∨ j = 11 ∨ j = 12 ∨ j = 13 ∨ j = 14 ∨ j = 15 by omega) with rfl | rfl | rfl | rfl | rfl | rfl | rfl | rfl | rfl | rfl | rfl | rfl | rfl | rfl | rfl | rfl
  · exact tm_124
  · exact tm_126
  · exact tm_128
  · exact tm_130
  · exact tm_132
  · exact tm_134
  · exact tm_136
  · exact tm_138
  · exact tm_140
  · exact tm_142
  · exact tm_144
  · exact tm_146
  · exact tm_148
  · exact tm_150
  · exact tm_152
  · exact tm_154
theorem n_RW : ∀ a, a < 2 → ∀ b, b < 2 → a ≠ b → (F_RW a).2.1 ≠ (F_RW b).2.1 := by decide +kernel
theorem t_RW_ok : ∀ k, k < 2 → parseFieldDescriptor (F_RW k).2.2.1 = some (t_RW k) := by decide +kernel
theorem i_RW : ∀ w ∈ u_ws "RowCode$Row" F_RW 2, w ∈ lw_tbl := by
  intro w hw
  obtain ⟨j, hj, rfl⟩ := List.mem_map.mp hw
  have hj := List.mem_range.mp hj
  rcases (show j = 0 ∨ j = 1 by omega) with rfl | rfl
  · exact tm_101
  · exact tm_103
theorem n_LD : ∀ a, a < 7 → ∀ b, b < 7 → a ≠ b → (F_LD a).2.1 ≠ (F_LD b).2.1 := by decide +kernel
theorem t_LD_ok : ∀ k, k < 7 → parseFieldDescriptor (F_LD k).2.2.1 = some (t_LD k) := by decide +kernel
theorem i_LD : ∀ w ∈ u_ws "RowCode$Loader" F_LD 7, w ∈ lw_tbl := by
  intro w hw
  obtain ⟨j, hj, rfl⟩ := List.mem_map.mp hw
  have hj := List.mem_range.mp hj
  rcases (show j = 0 ∨ j = 1 ∨ j = 2 ∨ j = 3 ∨ j = 4 ∨ j = 5 ∨ j = 6 by omega) with rfl | rfl | rfl | rfl | rfl | rfl | rfl
  · exact tm_172
  · exact tm_174
  · exact tm_176
  · exact tm_178
  · exact tm_180
  · exact tm_182
  · exact tm_184
theorem n_MD : ∀ a, a < 12 → ∀ b, b < 12 → a ≠ b → (F_MD a).2.1 ≠ (F_MD b).2.1 := by decide +kernel
theorem t_MD_ok : ∀ k, k < 12 → parseFieldDescriptor (F_MD k).2.2.1 = some (t_MD k) := by decide +kernel
theorem i_MD : ∀ w ∈ u_ws "RowCodeModel" F_MD 12, w ∈ lw_tbl := by
  intro w hw
  obtain ⟨j, hj, rfl⟩ := List.mem_map.mp hw
  have hj := List.mem_range.mp hj
  rcases (show j = 0 ∨ j = 1 ∨ j = 2 ∨ j = 3 ∨ j = 4 ∨ j = 5 ∨ j = 6 ∨ j = 7 ∨ j = 8 ∨ j = 9 ∨ j = 10 ∨ j = 11 by omega) with rfl | rfl | rfl | rfl | rfl | rfl | rfl | rfl | rfl | rfl | rfl | rfl
  · exact tm_786
  · exact tm_788
  · exact tm_790
  · exact tm_792
  · exact tm_794
  · exact tm_796
  · exact tm_798
  · exact tm_800
  · exact tm_802
  · exact tm_804
  · exact tm_806
  · exact tm_808
theorem cls_at : ∀ k, k < 7 → classes[k]? = some (CN k, FT k, NF k) := by
  intro k hk
  rcases (show k = 0 ∨ k = 1 ∨ k = 2 ∨ k = 3 ∨ k = 4 ∨ k = 5 ∨ k = 6 by omega) with rfl | rfl | rfl | rfl | rfl | rfl | rfl <;> rfl
theorem lay_in : ∀ k, k < 7 → ∀ w ∈ u_ws (CN k) (FT k) (NF k), w ∈ lw_tbl := by
  intro k hk
  rcases (show k = 0 ∨ k = 1 ∨ k = 2 ∨ k = 3 ∨ k = 4 ∨ k = 5 ∨ k = 6 by omega) with rfl | rfl | rfl | rfl | rfl | rfl | rfl
  · exact i_RC
  · exact i_CD
  · exact i_BT
  · exact i_GN
  · exact i_RW
  · exact i_LD
  · exact i_MD
theorem ty_ok : ∀ k, k < 7 → ∀ f, f < NF k → parseFieldDescriptor (FT k f).2.2.1 = some (TY k f) := by
  intro k hk
  rcases (show k = 0 ∨ k = 1 ∨ k = 2 ∨ k = 3 ∨ k = 4 ∨ k = 5 ∨ k = 6 by omega) with rfl | rfl | rfl | rfl | rfl | rfl | rfl
  · exact t_RC_ok
  · exact t_CD_ok
  · exact t_BT_ok
  · exact t_GN_ok
  · exact t_RW_ok
  · exact t_LD_ok
  · exact t_MD_ok
theorem nm_ok : ∀ k, k < 7 → ∀ a, a < NF k → ∀ b, b < NF k → a ≠ b → (FT k a).2.1 ≠ (FT k b).2.1 := by
  intro k hk
  rcases (show k = 0 ∨ k = 1 ∨ k = 2 ∨ k = 3 ∨ k = 4 ∨ k = 5 ∨ k = 6 by omega) with rfl | rfl | rfl | rfl | rfl | rfl | rfl
  · exact n_RC
  · exact n_CD
  · exact n_BT
  · exact n_GN
  · exact n_RW
  · exact n_LD
  · exact n_MD
/-- what a field is: 0 an int or a boolean; 1 + i the array i; 50 + j the object j; 60 the loader's text -/
def kdL : List (List Nat) := [[1, 2, 0, 0, 51, 52, 53, 55, 3, 4, 5, 6, 0, 0, 7, 8, 9, 10, 0, 0, 0, 0, 0, 11], [12, 0, 0], [13, 14, 0, 0, 15, 16, 17, 0], [54, 18, 19, 0, 0, 20, 0, 21, 0, 0, 22, 23, 24, 25, 0, 0], [26, 0], [27, 0, 28, 29, 0, 0, 60], [0, 0, 30, 31, 32, 33, 0, 0, 34, 35, 36, 0]]
def kd (k f : Nat) : Nat := (kdL.getD k []).getD f 0
/-- an array's element type: 0 int, 1 byte, 2 boolean; ids from 40 on are for a while -/
def taL : List Nat := [0, 0, 0, 0, 0, 0, 0, 0, 0, 0, 0, 0, 0, 0, 2, 0, 0, 0, 0, 0, 0, 0, 0, 0, 2, 1, 0, 0, 0, 0, 0, 0, 0, 0, 2, 0, 0, 0, 0, 0, 0, 2]
def ta (i : Nat) : Nat := taL.getD i 0
-- names of the arrays
abbrev a_RC_numbers : Nat := 0
abbrev a_RC_arguments : Nat := 1
abbrev a_RC_labelAt : Nat := 2
abbrev a_RC_depths : Nat := 3
abbrev a_RC_waits : Nat := 4
abbrev a_RC_waitsDeep : Nat := 5
abbrev a_RC_seen : Nat := 6
abbrev a_RC_path : Nat := 7
abbrev a_RC_next : Nat := 8
abbrev a_RC_store : Nat := 9
abbrev a_RC_row : Nat := 10
abbrev a_CD_code : Nat := 11
abbrev a_BT_from : Nat := 12
abbrev a_BT_to : Nat := 13
abbrev a_BT_live : Nat := 14
abbrev a_BT_where : Nat := 15
abbrev a_BT_follow : Nat := 16
abbrev a_GN_kinds : Nat := 17
abbrev a_GN_values : Nat := 18
abbrev a_GN_depths : Nat := 19
abbrev a_GN_great : Nat := 20
abbrev a_GN_ways : Nat := 21
abbrev a_GN_deeps : Nat := 22
abbrev a_GN_placeOf : Nat := 23
abbrev a_GN_been : Nat := 24
abbrev a_RW_bytes : Nat := 25
abbrev a_LD_words : Nat := 26
abbrev a_LD_labels : Nat := 27
abbrev a_LD_waits : Nat := 28
abbrev a_MD_numbers : Nat := 29
abbrev a_MD_args : Nat := 30
abbrev a_MD_locals : Nat := 31
abbrev a_MD_words : Nat := 32
abbrev a_MD_heights : Nat := 33
abbrev a_MD_gone : Nat := 34
abbrev a_MD_row : Nat := 35
