/-! CLASSES THAT CAN'T BE CAST (printed by gen/mk_x61.py) -/
set_option maxRecDepth 100000
def atP : List Bool → Cond → Option Cond
  | [], c => some c
  | b :: l, c => match c with
    | .and x y => atP l (match b with | true => y | false => x)
    | _ => none
theorem atP_mem : ∀ (l : List Bool) (c : Cond) {C T : String}, atP l c = some (.not (.castable C T)) → Cond.not (.castable C T) ∈ flatC c
  | [], c, C, T, h => by
    cases h
    exact List.mem_singleton.mpr rfl
  | b :: l, c, C, T, h => by
    cases c with
    | and x y =>
      cases b with
      | true => exact List.mem_append_right _ (atP_mem l y h)
      | false => exact List.mem_append_left _ (atP_mem l x h)
    | _ => cases h
theorem nc_of (l : List Bool) {C T : String} (h : atP l narrow_1 = some (.not (.castable C T))) : Cond.not (.castable C T) ∈ flatC (Jvm.Cond.and given_1 narrow_1) := List.mem_append_right _ (atP_mem l narrow_1 h)
theorem nc_0 : Cond.not (.castable "NoFartherThanAThrow$Bytes" "NoFartherThanAThrow$Thing") ∈ flatC (Jvm.Cond.and given_1 narrow_1) := nc_of [false, true, false, false, false, false, false, true, true] rfl
theorem nc_1 : Cond.not (.castable "NoFartherThanAThrow$Shorts" "NoFartherThanAThrow$Thing") ∈ flatC (Jvm.Cond.and given_1 narrow_1) := nc_of [false, true, false, false, false, false, true, false, false] rfl
theorem nc_2 : Cond.not (.castable "NoFartherThanAThrow$Ints" "NoFartherThanAThrow$Thing") ∈ flatC (Jvm.Cond.and given_1 narrow_1) := nc_of [false, true, false, false, false, false, true, false, true] rfl
theorem nc_3 : Cond.not (.castable "NoFartherThanAThrow$Longs" "NoFartherThanAThrow$Thing") ∈ flatC (Jvm.Cond.and given_1 narrow_1) := nc_of [false, true, false, false, false, false, true, true, false] rfl
theorem nc_4 : Cond.not (.castable "NoFartherThanAThrow$Bytes" "NoFartherThanAThrow$Heavy") ∈ flatC (Jvm.Cond.and given_1 narrow_1) := nc_of [false, true, true, false, true, false, false, true, true] rfl
theorem nc_5 : Cond.not (.castable "NoFartherThanAThrow$Shorts" "NoFartherThanAThrow$Heavy") ∈ flatC (Jvm.Cond.and given_1 narrow_1) := nc_of [false, true, true, false, true, false, true, false, false] rfl
theorem nc_6 : Cond.not (.castable "NoFartherThanAThrow$Ints" "NoFartherThanAThrow$Heavy") ∈ flatC (Jvm.Cond.and given_1 narrow_1) := nc_of [false, true, true, false, true, false, true, false, true] rfl
theorem nc_7 : Cond.not (.castable "NoFartherThanAThrow$Longs" "NoFartherThanAThrow$Heavy") ∈ flatC (Jvm.Cond.and given_1 narrow_1) := nc_of [false, true, true, false, true, false, true, true, false] rfl
theorem nc_8 : Cond.not (.castable "NoFartherThanAThrow$Thing" "NoFartherThanAThrow$Heavy") ∈ flatC (Jvm.Cond.and given_1 narrow_1) := nc_of [false, true, true, false, true, true, false, true, true] rfl
theorem nc_9 : Cond.not (.castable "NoFartherThanAThrow$Light" "NoFartherThanAThrow$Heavy") ∈ flatC (Jvm.Cond.and given_1 narrow_1) := nc_of [false, true, true, false, true, true, false, false, false] rfl
theorem nc_10 : Cond.not (.castable "NoFartherThanAThrow$Feather" "NoFartherThanAThrow$Heavy") ∈ flatC (Jvm.Cond.and given_1 narrow_1) := nc_of [false, true, true, false, true, true, false, false, true] rfl
theorem nc_11 : Cond.not (.castable "NoFartherThanAThrow$Glass" "NoFartherThanAThrow$Heavy") ∈ flatC (Jvm.Cond.and given_1 narrow_1) := nc_of [false, true, true, false, true, true, false, true, false] rfl
theorem nc_12 : Cond.not (.castable "NoFartherThanAThrow$Bytes" "NoFartherThanAThrow$Light") ∈ flatC (Jvm.Cond.and given_1 narrow_1) := nc_of [false, true, true, true, false, false, true, true, true] rfl
theorem nc_13 : Cond.not (.castable "NoFartherThanAThrow$Shorts" "NoFartherThanAThrow$Light") ∈ flatC (Jvm.Cond.and given_1 narrow_1) := nc_of [false, true, true, true, false, true, false, false, false] rfl
theorem nc_14 : Cond.not (.castable "NoFartherThanAThrow$Ints" "NoFartherThanAThrow$Light") ∈ flatC (Jvm.Cond.and given_1 narrow_1) := nc_of [false, true, true, true, false, true, false, false, true] rfl
theorem nc_15 : Cond.not (.castable "NoFartherThanAThrow$Longs" "NoFartherThanAThrow$Light") ∈ flatC (Jvm.Cond.and given_1 narrow_1) := nc_of [false, true, true, true, false, true, false, true, false] rfl
theorem nc_16 : Cond.not (.castable "NoFartherThanAThrow$Thing" "NoFartherThanAThrow$Light") ∈ flatC (Jvm.Cond.and given_1 narrow_1) := nc_of [false, true, true, true, true, false, false, false, false] rfl
theorem nc_17 : Cond.not (.castable "NoFartherThanAThrow$Heavy" "NoFartherThanAThrow$Light") ∈ flatC (Jvm.Cond.and given_1 narrow_1) := nc_of [false, true, true, true, false, true, true, false, false] rfl
theorem nc_18 : Cond.not (.castable "NoFartherThanAThrow$Glass" "NoFartherThanAThrow$Light") ∈ flatC (Jvm.Cond.and given_1 narrow_1) := nc_of [false, true, true, true, false, true, true, false, true] rfl
theorem nc_19 : Cond.not (.castable "NoFartherThanAThrow$Parted" "NoFartherThanAThrow$Light") ∈ flatC (Jvm.Cond.and given_1 narrow_1) := nc_of [false, true, true, true, false, true, true, true, false] rfl
theorem nc_20 : Cond.not (.castable "NoFartherThanAThrow$Round" "NoFartherThanAThrow$Light") ∈ flatC (Jvm.Cond.and given_1 narrow_1) := nc_of [false, true, true, true, false, true, true, true, true] rfl
theorem nc_21 : Cond.not (.castable "NoFartherThanAThrow$Bytes" "NoFartherThanAThrow$Feather") ∈ flatC (Jvm.Cond.and given_1 narrow_1) := nc_of [false, true, true, true, true, true, true, false, false] rfl
theorem nc_22 : Cond.not (.castable "NoFartherThanAThrow$Shorts" "NoFartherThanAThrow$Feather") ∈ flatC (Jvm.Cond.and given_1 narrow_1) := nc_of [false, true, true, true, true, true, true, false, true] rfl
theorem nc_23 : Cond.not (.castable "NoFartherThanAThrow$Ints" "NoFartherThanAThrow$Feather") ∈ flatC (Jvm.Cond.and given_1 narrow_1) := nc_of [false, true, true, true, true, true, true, true, false] rfl
theorem nc_24 : Cond.not (.castable "NoFartherThanAThrow$Longs" "NoFartherThanAThrow$Feather") ∈ flatC (Jvm.Cond.and given_1 narrow_1) := nc_of [false, true, true, true, true, true, true, true, true] rfl
theorem nc_25 : Cond.not (.castable "NoFartherThanAThrow$Thing" "NoFartherThanAThrow$Feather") ∈ flatC (Jvm.Cond.and given_1 narrow_1) := nc_of [true, false, false, false, false, false, true, true, true] rfl
theorem nc_26 : Cond.not (.castable "NoFartherThanAThrow$Heavy" "NoFartherThanAThrow$Feather") ∈ flatC (Jvm.Cond.and given_1 narrow_1) := nc_of [true, false, false, false, false, false, false, true, false] rfl
theorem nc_27 : Cond.not (.castable "NoFartherThanAThrow$Light" "NoFartherThanAThrow$Feather") ∈ flatC (Jvm.Cond.and given_1 narrow_1) := nc_of [true, false, false, false, false, false, false, true, true] rfl
theorem nc_28 : Cond.not (.castable "NoFartherThanAThrow$Glass" "NoFartherThanAThrow$Feather") ∈ flatC (Jvm.Cond.and given_1 narrow_1) := nc_of [true, false, false, false, false, false, true, false, false] rfl
theorem nc_29 : Cond.not (.castable "NoFartherThanAThrow$Parted" "NoFartherThanAThrow$Feather") ∈ flatC (Jvm.Cond.and given_1 narrow_1) := nc_of [true, false, false, false, false, false, true, false, true] rfl
theorem nc_30 : Cond.not (.castable "NoFartherThanAThrow$Round" "NoFartherThanAThrow$Feather") ∈ flatC (Jvm.Cond.and given_1 narrow_1) := nc_of [true, false, false, false, false, false, true, true, false] rfl
theorem nc_31 : Cond.not (.castable "NoFartherThanAThrow$Bytes" "NoFartherThanAThrow$Glass") ∈ flatC (Jvm.Cond.and given_1 narrow_1) := nc_of [true, false, false, false, true, false, false, true, true] rfl
theorem nc_32 : Cond.not (.castable "NoFartherThanAThrow$Shorts" "NoFartherThanAThrow$Glass") ∈ flatC (Jvm.Cond.and given_1 narrow_1) := nc_of [true, false, false, false, true, false, true, false, false] rfl
theorem nc_33 : Cond.not (.castable "NoFartherThanAThrow$Ints" "NoFartherThanAThrow$Glass") ∈ flatC (Jvm.Cond.and given_1 narrow_1) := nc_of [true, false, false, false, true, false, true, false, true] rfl
theorem nc_34 : Cond.not (.castable "NoFartherThanAThrow$Longs" "NoFartherThanAThrow$Glass") ∈ flatC (Jvm.Cond.and given_1 narrow_1) := nc_of [true, false, false, false, true, false, true, true, false] rfl
theorem nc_35 : Cond.not (.castable "NoFartherThanAThrow$Thing" "NoFartherThanAThrow$Glass") ∈ flatC (Jvm.Cond.and given_1 narrow_1) := nc_of [true, false, false, false, true, true, true, false, true] rfl
theorem nc_36 : Cond.not (.castable "NoFartherThanAThrow$Heavy" "NoFartherThanAThrow$Glass") ∈ flatC (Jvm.Cond.and given_1 narrow_1) := nc_of [true, false, false, false, true, true, false, false, false] rfl
theorem nc_37 : Cond.not (.castable "NoFartherThanAThrow$Light" "NoFartherThanAThrow$Glass") ∈ flatC (Jvm.Cond.and given_1 narrow_1) := nc_of [true, false, false, false, true, true, false, false, true] rfl
theorem nc_38 : Cond.not (.castable "NoFartherThanAThrow$Feather" "NoFartherThanAThrow$Glass") ∈ flatC (Jvm.Cond.and given_1 narrow_1) := nc_of [true, false, false, false, true, true, false, true, false] rfl
theorem nc_39 : Cond.not (.castable "NoFartherThanAThrow$Parted" "NoFartherThanAThrow$Glass") ∈ flatC (Jvm.Cond.and given_1 narrow_1) := nc_of [true, false, false, false, true, true, false, true, true] rfl
theorem nc_40 : Cond.not (.castable "NoFartherThanAThrow$Round" "NoFartherThanAThrow$Glass") ∈ flatC (Jvm.Cond.and given_1 narrow_1) := nc_of [true, false, false, false, true, true, true, false, false] rfl
theorem nc_41 : Cond.not (.castable "NoFartherThanAThrow$Bytes" "NoFartherThanAThrow$Parted") ∈ flatC (Jvm.Cond.and given_1 narrow_1) := nc_of [false, true, false, true, false, true, false, false, true] rfl
theorem nc_42 : Cond.not (.castable "NoFartherThanAThrow$Shorts" "NoFartherThanAThrow$Parted") ∈ flatC (Jvm.Cond.and given_1 narrow_1) := nc_of [false, true, false, true, false, true, false, true, false] rfl
theorem nc_43 : Cond.not (.castable "NoFartherThanAThrow$Ints" "NoFartherThanAThrow$Parted") ∈ flatC (Jvm.Cond.and given_1 narrow_1) := nc_of [false, true, false, true, false, true, false, true, true] rfl
theorem nc_44 : Cond.not (.castable "NoFartherThanAThrow$Longs" "NoFartherThanAThrow$Parted") ∈ flatC (Jvm.Cond.and given_1 narrow_1) := nc_of [false, true, false, true, false, true, true, false, false] rfl
theorem nc_45 : Cond.not (.castable "NoFartherThanAThrow$Thing" "NoFartherThanAThrow$Parted") ∈ flatC (Jvm.Cond.and given_1 narrow_1) := nc_of [false, true, false, true, true, false, false, true, true] rfl
theorem nc_46 : Cond.not (.castable "NoFartherThanAThrow$Heavy" "NoFartherThanAThrow$Parted") ∈ flatC (Jvm.Cond.and given_1 narrow_1) := nc_of [false, true, false, true, false, true, true, true, false] rfl
theorem nc_47 : Cond.not (.castable "NoFartherThanAThrow$Light" "NoFartherThanAThrow$Parted") ∈ flatC (Jvm.Cond.and given_1 narrow_1) := nc_of [false, true, false, true, false, true, true, true, true] rfl
theorem nc_48 : Cond.not (.castable "NoFartherThanAThrow$Feather" "NoFartherThanAThrow$Parted") ∈ flatC (Jvm.Cond.and given_1 narrow_1) := nc_of [false, true, false, true, true, false, false, false, false] rfl
theorem nc_49 : Cond.not (.castable "NoFartherThanAThrow$Glass" "NoFartherThanAThrow$Parted") ∈ flatC (Jvm.Cond.and given_1 narrow_1) := nc_of [false, true, false, true, true, false, false, false, true] rfl
theorem nc_50 : Cond.not (.castable "NoFartherThanAThrow$Round" "NoFartherThanAThrow$Parted") ∈ flatC (Jvm.Cond.and given_1 narrow_1) := nc_of [false, true, false, true, true, false, false, true, false] rfl
theorem nc_51 : Cond.not (.castable "NoFartherThanAThrow$Bytes" "NoFartherThanAThrow$Round") ∈ flatC (Jvm.Cond.and given_1 narrow_1) := nc_of [true, false, false, true, false, true, false, false, true] rfl
theorem nc_52 : Cond.not (.castable "NoFartherThanAThrow$Shorts" "NoFartherThanAThrow$Round") ∈ flatC (Jvm.Cond.and given_1 narrow_1) := nc_of [true, false, false, true, false, true, false, true, false] rfl
theorem nc_53 : Cond.not (.castable "NoFartherThanAThrow$Ints" "NoFartherThanAThrow$Round") ∈ flatC (Jvm.Cond.and given_1 narrow_1) := nc_of [true, false, false, true, false, true, false, true, true] rfl
theorem nc_54 : Cond.not (.castable "NoFartherThanAThrow$Longs" "NoFartherThanAThrow$Round") ∈ flatC (Jvm.Cond.and given_1 narrow_1) := nc_of [true, false, false, true, false, true, true, false, false] rfl
theorem nc_55 : Cond.not (.castable "NoFartherThanAThrow$Thing" "NoFartherThanAThrow$Round") ∈ flatC (Jvm.Cond.and given_1 narrow_1) := nc_of [true, false, false, true, true, false, false, true, true] rfl
theorem nc_56 : Cond.not (.castable "NoFartherThanAThrow$Heavy" "NoFartherThanAThrow$Round") ∈ flatC (Jvm.Cond.and given_1 narrow_1) := nc_of [true, false, false, true, false, true, true, true, false] rfl
theorem nc_57 : Cond.not (.castable "NoFartherThanAThrow$Light" "NoFartherThanAThrow$Round") ∈ flatC (Jvm.Cond.and given_1 narrow_1) := nc_of [true, false, false, true, false, true, true, true, true] rfl
theorem nc_58 : Cond.not (.castable "NoFartherThanAThrow$Feather" "NoFartherThanAThrow$Round") ∈ flatC (Jvm.Cond.and given_1 narrow_1) := nc_of [true, false, false, true, true, false, false, false, false] rfl
theorem nc_59 : Cond.not (.castable "NoFartherThanAThrow$Glass" "NoFartherThanAThrow$Round") ∈ flatC (Jvm.Cond.and given_1 narrow_1) := nc_of [true, false, false, true, true, false, false, false, true] rfl
theorem nc_60 : Cond.not (.castable "NoFartherThanAThrow$Parted" "NoFartherThanAThrow$Round") ∈ flatC (Jvm.Cond.and given_1 narrow_1) := nc_of [true, false, false, true, true, false, false, true, false] rfl
theorem nc_61 : Cond.not (.castable "NoFartherThanAThrow$Thing" "NoFartherThanAThrow$Row") ∈ flatC (Jvm.Cond.and given_1 narrow_1) := nc_of [false, true, true, false, false, false, true, true, true] rfl
theorem nc_62 : Cond.not (.castable "NoFartherThanAThrow$Heavy" "NoFartherThanAThrow$Row") ∈ flatC (Jvm.Cond.and given_1 narrow_1) := nc_of [false, true, true, false, false, false, false, false] rfl
theorem nc_63 : Cond.not (.castable "NoFartherThanAThrow$Light" "NoFartherThanAThrow$Row") ∈ flatC (Jvm.Cond.and given_1 narrow_1) := nc_of [false, true, true, false, false, false, false, true, false] rfl
theorem nc_64 : Cond.not (.castable "NoFartherThanAThrow$Feather" "NoFartherThanAThrow$Row") ∈ flatC (Jvm.Cond.and given_1 narrow_1) := nc_of [false, true, true, false, false, false, false, true, true] rfl
theorem nc_65 : Cond.not (.castable "NoFartherThanAThrow$Glass" "NoFartherThanAThrow$Row") ∈ flatC (Jvm.Cond.and given_1 narrow_1) := nc_of [false, true, true, false, false, false, true, false, false] rfl
theorem nc_66 : Cond.not (.castable "NoFartherThanAThrow$Parted" "NoFartherThanAThrow$Row") ∈ flatC (Jvm.Cond.and given_1 narrow_1) := nc_of [false, true, true, false, false, false, true, false, true] rfl
theorem nc_67 : Cond.not (.castable "NoFartherThanAThrow$Round" "NoFartherThanAThrow$Row") ∈ flatC (Jvm.Cond.and given_1 narrow_1) := nc_of [false, true, true, false, false, false, true, true, false] rfl
