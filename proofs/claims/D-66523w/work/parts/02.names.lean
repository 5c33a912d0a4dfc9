/-! names of the classes whose objects the world holds; printed by tools/gen_names.py -/
def R_Box : String := "BubbleBox"
def F_Box : u_T := fun k => match k with
  | 0 => ("BubbleBox", "chip", "LBubbleBox$Chip;", true)
  | 1 => ("BubbleBox", "controller", "LBubbleBox$Controller;", true)
  | 2 => ("BubbleBox", "directory", "LBubbleBox$Directory;", true)
  | 3 => ("BubbleBox", "images", "[LBubbleBox$Image;", true)
  | 4 => ("BubbleBox", "asked", "Ljava/util/ArrayList;", true)
  | 5 => ("BubbleBox", "done", "Ljava/util/ArrayList;", true)
  | _ => ("BubbleBox", "mounted", "Z", false)
def t_Box : Nat → FieldType := fun k => match k with
  | 0 => (.object "BubbleBox$Chip")
  | 1 => (.object "BubbleBox$Controller")
  | 2 => (.object "BubbleBox$Directory")
  | 3 => (.array (.object "BubbleBox$Image"))
  | 4 => (.object "java/util/ArrayList")
  | 5 => (.object "java/util/ArrayList")
  | _ => .boolean
theorem n_Box : ∀ a, a < 7 → ∀ b, b < 7 → a ≠ b → (F_Box a).2.1 ≠ (F_Box b).2.1 := by decide +kernel
theorem t_Box_ok : ∀ k, k < 7 → parseFieldDescriptor (F_Box k).2.2.1 = some (t_Box k) := by decide +kernel
theorem i_Box : ∀ w ∈ u_ws R_Box F_Box 7, w ∈ lw_tbl := by decide +kernel
def R_Chip : String := "BubbleBox$Chip"
def F_Chip : u_T := fun k => match k with
  | 0 => ("BubbleBox$Chip", "loops", "[LBubbleBox$Loop;", true)
  | 1 => ("BubbleBox$Chip", "map", "[I", true)
  | 2 => ("BubbleBox$Chip", "mapped", "Z", false)
  | 3 => ("BubbleBox$Chip", "position", "I", false)
  | _ => ("BubbleBox$Chip", "steps", "J", false)
def t_Chip : Nat → FieldType := fun k => match k with
  | 0 => (.array (.object "BubbleBox$Loop"))
  | 1 => (.array .int)
  | 2 => .boolean
  | 3 => .int
  | _ => .long
theorem n_Chip : ∀ a, a < 5 → ∀ b, b < 5 → a ≠ b → (F_Chip a).2.1 ≠ (F_Chip b).2.1 := by decide +kernel
theorem t_Chip_ok : ∀ k, k < 5 → parseFieldDescriptor (F_Chip k).2.2.1 = some (t_Chip k) := by decide +kernel
theorem i_Chip : ∀ w ∈ u_ws R_Chip F_Chip 5, w ∈ lw_tbl := by decide +kernel
def R_Ctl : String := "BubbleBox$Controller"
def F_Ctl : u_T := fun k => match k with
  | 0 => ("BubbleBox$Controller", "chip", "LBubbleBox$Chip;", true)
  | 1 => ("BubbleBox$Controller", "left", "I", false)
  | _ => ("BubbleBox$Controller", "on", "Z", false)
def t_Ctl : Nat → FieldType := fun k => match k with
  | 0 => (.object "BubbleBox$Chip")
  | 1 => .int
  | _ => .boolean
theorem n_Ctl : ∀ a, a < 3 → ∀ b, b < 3 → a ≠ b → (F_Ctl a).2.1 ≠ (F_Ctl b).2.1 := by decide +kernel
theorem t_Ctl_ok : ∀ k, k < 3 → parseFieldDescriptor (F_Ctl k).2.2.1 = some (t_Ctl k) := by decide +kernel
theorem i_Ctl : ∀ w ∈ u_ws R_Ctl F_Ctl 3, w ∈ lw_tbl := by decide +kernel
def R_Dir : String := "BubbleBox$Directory"
def F_Dir : u_T := fun k => match k with
  | 0 => ("BubbleBox$Directory", "files", "[LBubbleBox$StoredFile;", true)
  | 1 => ("BubbleBox$Directory", "next", "[I", true)
  | 2 => ("BubbleBox$Directory", "used", "[Z", true)
  | 3 => ("BubbleBox$Directory", "held", "[Z", true)
  | 4 => ("BubbleBox$Directory", "current", "I", false)
  | _ => ("BubbleBox$Directory", "turn", "I", false)
def t_Dir : Nat → FieldType := fun k => match k with
  | 0 => (.array (.object "BubbleBox$StoredFile"))
  | 1 => (.array .int)
  | 2 => (.array .boolean)
  | 3 => (.array .boolean)
  | 4 => .int
  | _ => .int
theorem n_Dir : ∀ a, a < 6 → ∀ b, b < 6 → a ≠ b → (F_Dir a).2.1 ≠ (F_Dir b).2.1 := by decide +kernel
theorem t_Dir_ok : ∀ k, k < 6 → parseFieldDescriptor (F_Dir k).2.2.1 = some (t_Dir k) := by decide +kernel
theorem i_Dir : ∀ w ∈ u_ws R_Dir F_Dir 6, w ∈ lw_tbl := by decide +kernel
def R_Img : String := "BubbleBox$Image"
def F_Img : u_T := fun k => match k with
  | _ => ("BubbleBox$Image", "bytes", "[I", true)
def t_Img : Nat → FieldType := fun k => match k with
  | _ => (.array .int)
theorem n_Img : ∀ a, a < 1 → ∀ b, b < 1 → a ≠ b → (F_Img a).2.1 ≠ (F_Img b).2.1 := by decide +kernel
theorem t_Img_ok : ∀ k, k < 1 → parseFieldDescriptor (F_Img k).2.2.1 = some (t_Img k) := by decide +kernel
theorem i_Img : ∀ w ∈ u_ws R_Img F_Img 1, w ∈ lw_tbl := by decide +kernel
def R_Loop : String := "BubbleBox$Loop"
def F_Loop : u_T := fun k => match k with
  | _ => ("BubbleBox$Loop", "bits", "[J", true)
def t_Loop : Nat → FieldType := fun k => match k with
  | _ => (.array .long)
theorem n_Loop : ∀ a, a < 1 → ∀ b, b < 1 → a ≠ b → (F_Loop a).2.1 ≠ (F_Loop b).2.1 := by decide +kernel
theorem t_Loop_ok : ∀ k, k < 1 → parseFieldDescriptor (F_Loop k).2.2.1 = some (t_Loop k) := by decide +kernel
theorem i_Loop : ∀ w ∈ u_ws R_Loop F_Loop 1, w ∈ lw_tbl := by decide +kernel
def R_Stuck : String := "BubbleBox$StuckLoop"
def F_Stuck : u_T := fun k => match k with
  | 0 => ("BubbleBox$StuckLoop", "at", "I", true)
  | _ => ("BubbleBox$Loop", "bits", "[J", true)
def t_Stuck : Nat → FieldType := fun k => match k with
  | 0 => .int
  | _ => (.array .long)
theorem n_Stuck : ∀ a, a < 2 → ∀ b, b < 2 → a ≠ b → (F_Stuck a).2.1 ≠ (F_Stuck b).2.1 := by decide +kernel
theorem t_Stuck_ok : ∀ k, k < 2 → parseFieldDescriptor (F_Stuck k).2.2.1 = some (t_Stuck k) := by decide +kernel
theorem i_Stuck : ∀ w ∈ u_ws R_Stuck F_Stuck 2, w ∈ lw_tbl := by decide +kernel
def R_File : String := "BubbleBox$StoredFile"
def F_File : u_T := fun k => match k with
  | 0 => ("BubbleBox$StoredFile", "name", "I", true)
  | 1 => ("BubbleBox$StoredFile", "first", "I", false)
  | 2 => ("BubbleBox$StoredFile", "length", "I", false)
  | _ => ("BubbleBox$StoredFile", "window", "LBubbleBox$Window;", true)
def t_File : Nat → FieldType := fun k => match k with
  | 0 => .int
  | 1 => .int
  | 2 => .int
  | _ => (.object "BubbleBox$Window")
theorem n_File : ∀ a, a < 4 → ∀ b, b < 4 → a ≠ b → (F_File a).2.1 ≠ (F_File b).2.1 := by decide +kernel
theorem t_File_ok : ∀ k, k < 4 → parseFieldDescriptor (F_File k).2.2.1 = some (t_File k) := by decide +kernel
theorem i_File : ∀ w ∈ u_ws R_File F_File 4, w ∈ lw_tbl := by decide +kernel
def R_Win : String := "BubbleBox$Window"
def F_Win : u_T := fun k => match k with
  | 0 => ("BubbleBox$Window", "page", "I", false)
  | 1 => ("BubbleBox$Window", "bits", "J", false)
  | _ => ("BubbleBox$Window", "changed", "Z", false)
def t_Win : Nat → FieldType := fun k => match k with
  | 0 => .int
  | 1 => .long
  | _ => .boolean
theorem n_Win : ∀ a, a < 3 → ∀ b, b < 3 → a ≠ b → (F_Win a).2.1 ≠ (F_Win b).2.1 := by decide +kernel
theorem t_Win_ok : ∀ k, k < 3 → parseFieldDescriptor (F_Win k).2.2.1 = some (t_Win k) := by decide +kernel
theorem i_Win : ∀ w ∈ u_ws R_Win F_Win 3, w ∈ lw_tbl := by decide +kernel
def R_Req : String := "BubbleBox$Request"
def F_Req : u_T := fun k => match k with
  | 0 => ("BubbleBox$Request", "page", "I", true)
  | 1 => ("BubbleBox$Request", "writes", "Z", true)
  | 2 => ("BubbleBox$Request", "bits", "J", true)
  | 3 => ("BubbleBox$Request", "done", "Z", false)
  | _ => ("BubbleBox$Request", "got", "J", false)
def t_Req : Nat → FieldType := fun k => match k with
  | 0 => .int
  | 1 => .boolean
  | 2 => .long
  | 3 => .boolean
  | _ => .long
theorem n_Req : ∀ a, a < 5 → ∀ b, b < 5 → a ≠ b → (F_Req a).2.1 ≠ (F_Req b).2.1 := by decide +kernel
theorem t_Req_ok : ∀ k, k < 5 → parseFieldDescriptor (F_Req k).2.2.1 = some (t_Req k) := by decide +kernel
theorem i_Req : ∀ w ∈ u_ws R_Req F_Req 5, w ∈ lw_tbl := by decide +kernel
def R_AL : String := "java/util/ArrayList"
def F_AL : u_T := fun k => match k with
  | 0 => ("java/util/ArrayList", "elementData", "[Ljava/lang/Object;", false)
  | 1 => ("java/util/ArrayList", "size", "I", false)
  | _ => ("java/util/AbstractList", "modCount", "I", false)
def t_AL : Nat → FieldType := fun k => match k with
  | 0 => (.array (.object "java/lang/Object"))
  | 1 => .int
  | _ => .int
theorem n_AL : ∀ a, a < 3 → ∀ b, b < 3 → a ≠ b → (F_AL a).2.1 ≠ (F_AL b).2.1 := by decide +kernel
theorem t_AL_ok : ∀ k, k < 3 → parseFieldDescriptor (F_AL k).2.2.1 = some (t_AL k) := by decide +kernel
theorem i_AL : ∀ w ∈ u_ws R_AL F_AL 3, w ∈ lw_tbl := by decide +kernel
def R_Mod : String := "BubbleBoxModel"
def F_Mod : u_T := fun k => match k with
  | 0 => ("BubbleBoxModel", "code", "I", false)
  | 1 => ("BubbleBoxModel", "bad", "[Z", true)
  | 2 => ("BubbleBoxModel", "mapped", "Z", false)
  | 3 => ("BubbleBoxModel", "data", "[J", true)
  | 4 => ("BubbleBoxModel", "position", "I", false)
  | 5 => ("BubbleBoxModel", "steps", "J", false)
  | 6 => ("BubbleBoxModel", "left", "I", false)
  | 7 => ("BubbleBoxModel", "on", "Z", false)
  | 8 => ("BubbleBoxModel", "mounted", "Z", false)
  | 9 => ("BubbleBoxModel", "name", "[I", true)
  | 10 => ("BubbleBoxModel", "length", "[I", true)
  | 11 => ("BubbleBoxModel", "chain", "[I", true)
  | 12 => ("BubbleBoxModel", "windowPage", "[I", true)
  | 13 => ("BubbleBoxModel", "windowBits", "[J", true)
  | 14 => ("BubbleBoxModel", "changed", "[Z", true)
  | 15 => ("BubbleBoxModel", "current", "I", false)
  | 16 => ("BubbleBoxModel", "turn", "I", false)
  | 17 => ("BubbleBoxModel", "held", "[Z", true)
  | 18 => ("BubbleBoxModel", "image", "[I", true)
  | 19 => ("BubbleBoxModel", "behind", "[I", true)
  | 20 => ("BubbleBoxModel", "requests", "I", false)
  | 21 => ("BubbleBoxModel", "askedPage", "[I", true)
  | 22 => ("BubbleBoxModel", "asksWrite", "[Z", true)
  | 23 => ("BubbleBoxModel", "askedBits", "[J", true)
  | 24 => ("BubbleBoxModel", "done", "[Z", true)
  | 25 => ("BubbleBoxModel", "answers", "I", false)
  | _ => ("BubbleBoxModel", "answer", "[J", true)
def t_Mod : Nat → FieldType := fun k => match k with
  | 0 => .int
  | 1 => (.array .boolean)
  | 2 => .boolean
  | 3 => (.array .long)
  | 4 => .int
  | 5 => .long
  | 6 => .int
  | 7 => .boolean
  | 8 => .boolean
  | 9 => (.array .int)
  | 10 => (.array .int)
  | 11 => (.array .int)
  | 12 => (.array .int)
  | 13 => (.array .long)
  | 14 => (.array .boolean)
  | 15 => .int
  | 16 => .int
  | 17 => (.array .boolean)
  | 18 => (.array .int)
  | 19 => (.array .int)
  | 20 => .int
  | 21 => (.array .int)
  | 22 => (.array .boolean)
  | 23 => (.array .long)
  | 24 => (.array .boolean)
  | 25 => .int
  | _ => (.array .long)
theorem n_Mod : ∀ a, a < 27 → ∀ b, b < 27 → a ≠ b → (F_Mod a).2.1 ≠ (F_Mod b).2.1 := by decide +kernel
theorem t_Mod_ok : ∀ k, k < 27 → parseFieldDescriptor (F_Mod k).2.2.1 = some (t_Mod k) := by decide +kernel
theorem i_Mod : ∀ w ∈ u_ws R_Mod F_Mod 27, w ∈ lw_tbl := by decide +kernel
abbrev classes : List vw_C := [(R_Box, F_Box, 7), (R_Chip, F_Chip, 5), (R_Ctl, F_Ctl, 3), (R_Dir, F_Dir, 6), (R_Img, F_Img, 1), (R_Loop, F_Loop, 1), (R_Stuck, F_Stuck, 2), (R_File, F_File, 4), (R_Win, F_Win, 3), (R_Req, F_Req, 5), (R_AL, F_AL, 3), (R_Mod, F_Mod, 27)]
