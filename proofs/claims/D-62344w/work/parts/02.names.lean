def R_SM : String := "SlottedMesh"
def F_SM : u_T := fun k => match k with
  | 0 => ("SlottedMesh", "count", "I", true)
  | 1 => ("SlottedMesh", "slots", "I", true)
  | 2 => ("SlottedMesh", "channels", "I", true)
  | 3 => ("SlottedMesh", "nodes", "[LSlottedMesh$Node;", true)
  | 4 => ("SlottedMesh", "near", "[[Z", true)
  | 5 => ("SlottedMesh", "frames", "[J", true)
  | 6 => ("SlottedMesh", "confirmations", "[J", true)
  | 7 => ("SlottedMesh", "time", "I", false)
  | 8 => ("SlottedMesh", "sends", "I", false)
  | 9 => ("SlottedMesh", "spare", "LSlottedMesh$Frame;", false)
  | 10 => ("SlottedMesh", "slot", "[LSlottedMesh$Cell;", true)
  | 11 => ("SlottedMesh", "adverts", "[LSlottedMesh$Advert;", true)
  | 12 => ("SlottedMesh", "ups", "[LSlottedMesh$Up;", true)
  | 13 => ("SlottedMesh", "downs", "[LSlottedMesh$Down;", true)
  | 14 => ("SlottedMesh", "ranks", "[I", true)
  | 15 => ("SlottedMesh", "firsts", "[I", true)
  | 16 => ("SlottedMesh", "seconds", "[I", true)
  | 17 => ("SlottedMesh", "order", "[I", true)
  | 18 => ("SlottedMesh", "busy", "[I", true)
  | 19 => ("SlottedMesh", "used", "[I", true)
  | 20 => ("SlottedMesh", "places", "[I", true)
  | 21 => ("SlottedMesh", "placed", "I", false)
  | 22 => ("SlottedMesh", "kept", "[[I", true)
  | 23 => ("SlottedMesh", "newest", "[I", true)
  | 24 => ("SlottedMesh", "target", "[I", true)
  | 25 => ("SlottedMesh", "gain", "[I", true)
  | 26 => ("SlottedMesh", "gainOfSum", "[I", true)
  | _ => ("SlottedMesh", "sum", "[I", true)
def t_SM : Nat → FieldType := fun k => match k with
  | 0 => .int
  | 1 => .int
  | 2 => .int
  | 3 => .array (.object "SlottedMesh$Node")
  | 4 => .array (.array (.boolean))
  | 5 => .array (.long)
  | 6 => .array (.long)
  | 7 => .int
  | 8 => .int
  | 9 => .object "SlottedMesh$Frame"
  | 10 => .array (.object "SlottedMesh$Cell")
  | 11 => .array (.object "SlottedMesh$Advert")
  | 12 => .array (.object "SlottedMesh$Up")
  | 13 => .array (.object "SlottedMesh$Down")
  | 14 => .array (.int)
  | 15 => .array (.int)
  | 16 => .array (.int)
  | 17 => .array (.int)
  | 18 => .array (.int)
  | 19 => .array (.int)
  | 20 => .array (.int)
  | 21 => .int
  | 22 => .array (.array (.int))
  | 23 => .array (.int)
  | 24 => .array (.int)
  | 25 => .array (.int)
  | 26 => .array (.int)
  | _ => .array (.int)
theorem n_SM : ∀ a, a < 28 → ∀ b, b < 28 → a ≠ b → (F_SM a).2.1 ≠ (F_SM b).2.1 := by decide +kernel
theorem t_SM_ok : ∀ k, k < 28 → parseFieldDescriptor (F_SM k).2.2.1 = some (t_SM k) := by decide +kernel
def R_Node : String := "SlottedMesh$Node"
def F_Node : u_T := fun k => match k with
  | 0 => ("SlottedMesh$Node", "id", "I", true)
  | 1 => ("SlottedMesh$Node", "started", "Z", false)
  | 2 => ("SlottedMesh$Node", "current", "Z", false)
  | 3 => ("SlottedMesh$Node", "offset", "I", false)
  | 4 => ("SlottedMesh$Node", "drift", "I", false)
  | 5 => ("SlottedMesh$Node", "fails", "I", false)
  | 6 => ("SlottedMesh$Node", "tries", "I", false)
  | 7 => ("SlottedMesh$Node", "numbers", "I", false)
  | 8 => ("SlottedMesh$Node", "actuator", "I", false)
  | 9 => ("SlottedMesh$Node", "up", "LSlottedMesh$Row;", true)
  | 10 => ("SlottedMesh$Node", "down", "LSlottedMesh$Row;", true)
  | 11 => ("SlottedMesh$Node", "tookUp", "[I", true)
  | 12 => ("SlottedMesh$Node", "tookDown", "[I", true)
  | 13 => ("SlottedMesh$Node", "rank", "I", false)
  | 14 => ("SlottedMesh$Node", "first", "LSlottedMesh$Node;", false)
  | _ => ("SlottedMesh$Node", "second", "LSlottedMesh$Node;", false)
def t_Node : Nat → FieldType := fun k => match k with
  | 0 => .int
  | 1 => .boolean
  | 2 => .boolean
  | 3 => .int
  | 4 => .int
  | 5 => .int
  | 6 => .int
  | 7 => .int
  | 8 => .int
  | 9 => .object "SlottedMesh$Row"
  | 10 => .object "SlottedMesh$Row"
  | 11 => .array (.int)
  | 12 => .array (.int)
  | 13 => .int
  | 14 => .object "SlottedMesh$Node"
  | _ => .object "SlottedMesh$Node"
theorem n_Node : ∀ a, a < 16 → ∀ b, b < 16 → a ≠ b → (F_Node a).2.1 ≠ (F_Node b).2.1 := by decide +kernel
theorem t_Node_ok : ∀ k, k < 16 → parseFieldDescriptor (F_Node k).2.2.1 = some (t_Node k) := by decide +kernel
def R_Row : String := "SlottedMesh$Row"
def F_Row : u_T := fun k => match k with
  | 0 => ("SlottedMesh$Row", "first", "LSlottedMesh$Frame;", false)
  | 1 => ("SlottedMesh$Row", "last", "LSlottedMesh$Frame;", false)
  | _ => ("SlottedMesh$Row", "size", "I", false)
def t_Row : Nat → FieldType := fun k => match k with
  | 0 => .object "SlottedMesh$Frame"
  | 1 => .object "SlottedMesh$Frame"
  | _ => .int
theorem n_Row : ∀ a, a < 3 → ∀ b, b < 3 → a ≠ b → (F_Row a).2.1 ≠ (F_Row b).2.1 := by decide +kernel
theorem t_Row_ok : ∀ k, k < 3 → parseFieldDescriptor (F_Row k).2.2.1 = some (t_Row k) := by decide +kernel
def R_Frame : String := "SlottedMesh$Frame"
def F_Frame : u_T := fun k => match k with
  | 0 => ("SlottedMesh$Frame", "about", "I", false)
  | 1 => ("SlottedMesh$Frame", "number", "I", false)
  | 2 => ("SlottedMesh$Frame", "value", "I", false)
  | _ => ("SlottedMesh$Frame", "next", "LSlottedMesh$Frame;", false)
def t_Frame : Nat → FieldType := fun k => match k with
  | 0 => .int
  | 1 => .int
  | 2 => .int
  | _ => .object "SlottedMesh$Frame"
theorem n_Frame : ∀ a, a < 4 → ∀ b, b < 4 → a ≠ b → (F_Frame a).2.1 ≠ (F_Frame b).2.1 := by decide +kernel
theorem t_Frame_ok : ∀ k, k < 4 → parseFieldDescriptor (F_Frame k).2.2.1 = some (t_Frame k) := by decide +kernel
def R_Advert : String := "SlottedMesh$Advert"
def F_Advert : u_T := fun k => match k with
  | 0 => ("SlottedMesh$Cell", "from", "LSlottedMesh$Node;", false)
  | 1 => ("SlottedMesh$Cell", "channel", "I", false)
  | _ => ("SlottedMesh$Cell", "next", "LSlottedMesh$Cell;", false)
def t_Advert : Nat → FieldType := fun k => match k with
  | 0 => .object "SlottedMesh$Node"
  | 1 => .int
  | _ => .object "SlottedMesh$Cell"
theorem n_Advert : ∀ a, a < 3 → ∀ b, b < 3 → a ≠ b → (F_Advert a).2.1 ≠ (F_Advert b).2.1 := by decide +kernel
theorem t_Advert_ok : ∀ k, k < 3 → parseFieldDescriptor (F_Advert k).2.2.1 = some (t_Advert k) := by decide +kernel
def R_Up : String := "SlottedMesh$Up"
def F_Up : u_T := fun k => match k with
  | 0 => ("SlottedMesh$Cell", "from", "LSlottedMesh$Node;", false)
  | 1 => ("SlottedMesh$Cell", "channel", "I", false)
  | 2 => ("SlottedMesh$Cell", "next", "LSlottedMesh$Cell;", false)
  | _ => ("SlottedMesh$Link", "to", "LSlottedMesh$Node;", false)
def t_Up : Nat → FieldType := fun k => match k with
  | 0 => .object "SlottedMesh$Node"
  | 1 => .int
  | 2 => .object "SlottedMesh$Cell"
  | _ => .object "SlottedMesh$Node"
theorem n_Up : ∀ a, a < 4 → ∀ b, b < 4 → a ≠ b → (F_Up a).2.1 ≠ (F_Up b).2.1 := by decide +kernel
theorem t_Up_ok : ∀ k, k < 4 → parseFieldDescriptor (F_Up k).2.2.1 = some (t_Up k) := by decide +kernel
def R_Down : String := "SlottedMesh$Down"
def F_Down : u_T := fun k => match k with
  | 0 => ("SlottedMesh$Cell", "from", "LSlottedMesh$Node;", false)
  | 1 => ("SlottedMesh$Cell", "channel", "I", false)
  | 2 => ("SlottedMesh$Cell", "next", "LSlottedMesh$Cell;", false)
  | _ => ("SlottedMesh$Link", "to", "LSlottedMesh$Node;", false)
def t_Down : Nat → FieldType := fun k => match k with
  | 0 => .object "SlottedMesh$Node"
  | 1 => .int
  | 2 => .object "SlottedMesh$Cell"
  | _ => .object "SlottedMesh$Node"
theorem n_Down : ∀ a, a < 4 → ∀ b, b < 4 → a ≠ b → (F_Down a).2.1 ≠ (F_Down b).2.1 := by decide +kernel
theorem t_Down_ok : ∀ k, k < 4 → parseFieldDescriptor (F_Down k).2.2.1 = some (t_Down k) := by decide +kernel
def R_Model : String := "SlottedMeshModel"
def F_Model : u_T := fun k => match k with
  | 0 => ("SlottedMeshModel", "nodes", "I", true)
  | 1 => ("SlottedMeshModel", "slots", "I", true)
  | 2 => ("SlottedMeshModel", "channels", "I", true)
  | 3 => ("SlottedMeshModel", "time", "I", false)
  | 4 => ("SlottedMeshModel", "sends", "I", false)
  | 5 => ("SlottedMeshModel", "near", "[Z", true)
  | 6 => ("SlottedMeshModel", "started", "[Z", true)
  | 7 => ("SlottedMeshModel", "current", "[Z", true)
  | 8 => ("SlottedMeshModel", "offset", "[I", true)
  | 9 => ("SlottedMeshModel", "drift", "[I", true)
  | 10 => ("SlottedMeshModel", "heard", "[J", true)
  | 11 => ("SlottedMeshModel", "confirmed", "[J", true)
  | 12 => ("SlottedMeshModel", "planned", "Z", false)
  | 13 => ("SlottedMeshModel", "rank", "[I", true)
  | 14 => ("SlottedMeshModel", "parents", "[I", true)
  | 15 => ("SlottedMeshModel", "cells", "[I", true)
  | 16 => ("SlottedMeshModel", "newRank", "[I", true)
  | 17 => ("SlottedMeshModel", "newParents", "[I", true)
  | 18 => ("SlottedMeshModel", "newCells", "[I", true)
  | 19 => ("SlottedMeshModel", "many", "[I", true)
  | 20 => ("SlottedMeshModel", "end", "[I", true)
  | 21 => ("SlottedMeshModel", "number", "[I", true)
  | 22 => ("SlottedMeshModel", "value", "[I", true)
  | 23 => ("SlottedMeshModel", "fails", "[I", true)
  | 24 => ("SlottedMeshModel", "tries", "[I", true)
  | 25 => ("SlottedMeshModel", "took", "[I", true)
  | 26 => ("SlottedMeshModel", "counted", "[I", true)
  | 27 => ("SlottedMeshModel", "kept", "[I", true)
  | 28 => ("SlottedMeshModel", "keeps", "[I", true)
  | 29 => ("SlottedMeshModel", "target", "[I", true)
  | 30 => ("SlottedMeshModel", "ps", "[I", true)
  | 31 => ("SlottedMeshModel", "is", "[I", true)
  | 32 => ("SlottedMeshModel", "sum", "[I", true)
  | _ => ("SlottedMeshModel", "actuators", "[I", true)
def t_Model : Nat → FieldType := fun k => match k with
  | 0 => .int
  | 1 => .int
  | 2 => .int
  | 3 => .int
  | 4 => .int
  | 5 => .array (.boolean)
  | 6 => .array (.boolean)
  | 7 => .array (.boolean)
  | 8 => .array (.int)
  | 9 => .array (.int)
  | 10 => .array (.long)
  | 11 => .array (.long)
  | 12 => .boolean
  | 13 => .array (.int)
  | 14 => .array (.int)
  | 15 => .array (.int)
  | 16 => .array (.int)
  | 17 => .array (.int)
  | 18 => .array (.int)
  | 19 => .array (.int)
  | 20 => .array (.int)
  | 21 => .array (.int)
  | 22 => .array (.int)
  | 23 => .array (.int)
  | 24 => .array (.int)
  | 25 => .array (.int)
  | 26 => .array (.int)
  | 27 => .array (.int)
  | 28 => .array (.int)
  | 29 => .array (.int)
  | 30 => .array (.int)
  | 31 => .array (.int)
  | 32 => .array (.int)
  | _ => .array (.int)
theorem n_Model : ∀ a, a < 34 → ∀ b, b < 34 → a ≠ b → (F_Model a).2.1 ≠ (F_Model b).2.1 := by decide +kernel
theorem t_Model_ok : ∀ k, k < 34 → parseFieldDescriptor (F_Model k).2.2.1 = some (t_Model k) := by decide +kernel
/-- the classes, by number -/
def zcl : List vw_C := [(R_SM, F_SM, 28), (R_Node, F_Node, 16), (R_Row, F_Row, 3), (R_Frame, F_Frame, 4), (R_Advert, F_Advert, 3), (R_Up, F_Up, 4), (R_Down, F_Down, 4), (R_Model, F_Model, 34)]
/-- the shape of a cell: .inl (class, number of fields), .inr (array class, length) -/
def zsh (k i : Nat) : (Nat × Nat) ⊕ (Nat × Nat) := match k with
  | 0 => .inl (0, 28)
  | 1 => .inl (1, 16)
  | 2 => .inl (2, 3)
  | 3 => .inl (3, 4)
  | 4 => if i < 6 then .inl (4, 3) else if i < 16 then .inl (5, 4) else .inl (6, 4)
  | 5 => .inr (0, 6)
  | 6 => .inr (3, 6)
  | 7 => .inr (4, 6)
  | 8 => .inr (1, 6)
  | 9 => .inr (2, 4)
  | 10 => .inr (2, 4)
  | 11 => .inr (5, 24)
  | 12 => .inr (6, 6)
  | 13 => .inr (7, 10)
  | 14 => .inr (8, 5)
  | 15 => .inr (0, 6)
  | 16 => .inr (0, 6)
  | 17 => .inr (0, 6)
  | 18 => .inr (0, 6)
  | 19 => .inr (0, 24)
  | 20 => .inr (0, 24)
  | 21 => .inr (0, 21)
  | 22 => .inr (9, 6)
  | 23 => .inr (0, 3)
  | 24 => .inr (0, 6)
  | 25 => .inr (0, 6)
  | 26 => .inr (0, 6)
  | 27 => .inr (0, 6)
  | 28 => .inr (0, 6)
  | 29 => .inl (7, 34)
  | 30 => .inr (1, 36)
  | 31 => .inr (1, 6)
  | 32 => .inr (1, 6)
  | 33 => .inr (0, 6)
  | 34 => .inr (0, 6)
  | 35 => .inr (2, 4)
  | 36 => .inr (2, 4)
  | 37 => .inr (0, 6)
  | 38 => .inr (0, 12)
  | 39 => .inr (0, 96)
  | 40 => .inr (0, 6)
  | 41 => .inr (0, 12)
  | 42 => .inr (0, 96)
  | 43 => .inr (0, 12)
  | 44 => .inr (0, 48)
  | 45 => .inr (0, 48)
  | 46 => .inr (0, 48)
  | 47 => .inr (0, 6)
  | 48 => .inr (0, 6)
  | 49 => .inr (0, 72)
  | 50 => .inr (0, 6)
  | 51 => .inr (0, 18)
  | _ => .inr (0, 6)
/-- the type of a place: 0 int, 1 long, k + 2 a reference to kind k -/
def zft (k f : Nat) : Nat := match k with
  | 0 => (match f with | 3 => 8 | 4 => 9 | 5 => 11 | 6 => 12 | 9 => 5 | 10 => 13 | 11 => 14 | 12 => 15 | 13 => 16 | 14 => 17 | 15 => 18 | 16 => 19 | 17 => 20 | 18 => 21 | 19 => 22 | 20 => 23 | 22 => 24 | 23 => 26 | 24 => 27 | 25 => 28 | 26 => 29 | 27 => 30 | _ => 0)
  | 1 => (match f with | 9 => 4 | 10 => 4 | 11 => 7 | 12 => 7 | 14 => 3 | 15 => 3 | _ => 0)
  | 2 => (match f with | 0 => 5 | 1 => 5 | _ => 0)
  | 3 => (match f with | 3 => 5 | _ => 0)
  | 4 => (match f with | 0 => 3 | 2 => 6 | 3 => 3 | _ => 0)
  | 6 => 3
  | 7 => 10
  | 9 => 1
  | 10 => 1
  | 11 => 6
  | 12 => 6
  | 13 => 6
  | 14 => 6
  | 22 => 25
  | 29 => (match f with | 5 => 32 | 6 => 33 | 7 => 34 | 8 => 35 | 9 => 36 | 10 => 37 | 11 => 38 | 13 => 39 | 14 => 40 | 15 => 41 | 16 => 42 | 17 => 43 | 18 => 44 | 19 => 45 | 20 => 46 | 21 => 47 | 22 => 48 | 23 => 49 | 24 => 50 | 25 => 51 | 26 => 52 | 27 => 53 | 28 => 54 | 29 => 55 | 30 => 56 | 31 => 57 | 32 => 58 | 33 => 59 | _ => 0)
  | 35 => 1
  | 36 => 1
  | _ => 0
def zty (t : Nat) : FieldType := match t with | 0 => .int | 1 => .boolean | 2 => .long | 3 => .object R_Node | 4 => .array .boolean | 5 => .object "SlottedMesh$Cell" | 6 => .object R_Advert | 7 => .object R_Up | 8 => .object R_Down | _ => .array .int
