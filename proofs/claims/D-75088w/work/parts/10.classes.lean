/-! the classes whose objects are in worlds, by number -/
def T0 : u_T := fun _ => ("", "", "", false)
def vwCl : List vw_C := [(RX8, TX8, 61), (RX1, TX1, 7), (RX2, TX2, 6), (RX3, TX3, 24), (RX5, T0, 0), (RX6, T0, 0), (RX7, T0, 0), (RX9, TX9, 7), (RX10, TX10, 7), (RX11, TX11, 7), (RX12, TX12, 3), (RJ2, TJ2, 3), (RJ17, TJ17, 3), (RJ22, TJ22, 4), (RJ8, TJ8, 4), (RJ9, TJ9, 4)]
theorem cl_0 : vwCl[0]? = some (RX8, TX8, 61) := rfl
theorem cl_1 : vwCl[1]? = some (RX1, TX1, 7) := rfl
theorem cl_2 : vwCl[2]? = some (RX2, TX2, 6) := rfl
theorem cl_3 : vwCl[3]? = some (RX3, TX3, 24) := rfl
theorem cl_4 : vwCl[4]? = some (RX5, T0, 0) := rfl
theorem cl_5 : vwCl[5]? = some (RX6, T0, 0) := rfl
theorem cl_6 : vwCl[6]? = some (RX7, T0, 0) := rfl
theorem cl_7 : vwCl[7]? = some (RX9, TX9, 7) := rfl
theorem cl_8 : vwCl[8]? = some (RX10, TX10, 7) := rfl
theorem cl_9 : vwCl[9]? = some (RX11, TX11, 7) := rfl
theorem cl_10 : vwCl[10]? = some (RX12, TX12, 3) := rfl
theorem cl_11 : vwCl[11]? = some (RJ2, TJ2, 3) := rfl
theorem cl_12 : vwCl[12]? = some (RJ17, TJ17, 3) := rfl
theorem cl_13 : vwCl[13]? = some (RJ22, TJ22, 4) := rfl
theorem cl_14 : vwCl[14]? = some (RJ8, TJ8, 4) := rfl
theorem cl_15 : vwCl[15]? = some (RJ9, TJ9, 4) := rfl
