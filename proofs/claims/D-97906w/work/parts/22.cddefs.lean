/-! terms: plain functions -/
set_option maxRecDepth 100000
def E_figure (tv : Int32) : Option (Int32) :=
  some tv
def E_named (nm : Nat → Int32) (tv : Int32) : Option (Int32) :=
  bd1 (rd (nm) 128 tv) fun v1 =>
  some v1
def E_turned (f_val : Nat → Option Int32) (ta : Nat) : Option (Int32) :=
  bd1 (f_val ta) fun v1 =>
  if v1 = 0 then
    some 1
  else
    some 0
def E_two (f_val : Nat → Option Int32) (tv : Int32) (ta tb : Nat) : Option (Int32) :=
  bd1 (f_val ta) fun v1 =>
  bd1 (f_val tb) fun v2 =>
  if tv = 37 then
    if v2 = 0 then
      some 0
    else
      bd1 (rmd v1 v2) fun v5 =>
      some v5
  else
    if tv = 38 then
      if v1 = 0 then
        bd1 (L_is 0) fun v8 =>
        some v8
      else
        if v2 = 0 then
          bd1 (L_is 0) fun v10 =>
          some v10
        else
          bd1 (L_is 1) fun v11 =>
          some v11
    else
      if tv = 39 then
        if v1 = 0 then
          if v2 = 0 then
            bd1 (L_is 0) fun v16 =>
            some v16
          else
            bd1 (L_is 1) fun v17 =>
            some v17
        else
          bd1 (L_is 1) fun v14 =>
          some v14
      else
        if tv = 40 then
          if v1 = 0 then
            if v2 = 0 then
              bd1 (L_is 0) fun v22 =>
              some v22
            else
              bd1 (L_is 1) fun v23 =>
              some v23
          else
            bd1 (L_is 1) fun v20 =>
            some v20
        else
          if tv = 41 then
            if v1 = 0 then
              if v2 = 0 then
                bd1 (L_is 0) fun v28 =>
                some v28
              else
                bd1 (L_is 1) fun v29 =>
                some v29
            else
              bd1 (L_is 1) fun v26 =>
              some v26
          else
            if tv = 42 then
              some (v1 * v2)
            else
              if tv = 43 then
                some (v1 + v2)
              else
                if tv = 44 then
                  if v1 = 0 then
                    if v2 = 0 then
                      bd1 (L_is 0) fun v36 =>
                      some v36
                    else
                      bd1 (L_is 1) fun v37 =>
                      some v37
                  else
                    bd1 (L_is 1) fun v34 =>
                    some v34
                else
                  if tv = 45 then
                    some (v1 - v2)
                  else
                    if tv = 46 then
                      if v1 = 0 then
                        if v2 = 0 then
                          bd1 (L_is 0) fun v43 =>
                          some v43
                        else
                          bd1 (L_is 1) fun v44 =>
                          some v44
                      else
                        bd1 (L_is 1) fun v41 =>
                        some v41
                    else
                      if tv = 47 then
                        if v2 = 0 then
                          some 0
                        else
                          bd1 (dv v1 v2) fun v47 =>
                          some v47
                      else
                        if tv = 48 then
                          if v1 = 0 then
                            if v2 = 0 then
                              bd1 (L_is 0) fun v52 =>
                              some v52
                            else
                              bd1 (L_is 1) fun v53 =>
                              some v53
                          else
                            bd1 (L_is 1) fun v50 =>
                            some v50
                        else
                          if tv = 49 then
                            if v1 = 0 then
                              if v2 = 0 then
                                bd1 (L_is 0) fun v58 =>
                                some v58
                              else
                                bd1 (L_is 1) fun v59 =>
                                some v59
                            else
                              bd1 (L_is 1) fun v56 =>
                              some v56
                          else
                            if tv = 50 then
                              if v1 = 0 then
                                if v2 = 0 then
                                  bd1 (L_is 0) fun v64 =>
                                  some v64
                                else
                                  bd1 (L_is 1) fun v65 =>
                                  some v65
                              else
                                bd1 (L_is 1) fun v62 =>
                                some v62
                            else
                              if tv = 51 then
                                if v1 = 0 then
                                  if v2 = 0 then
                                    bd1 (L_is 0) fun v70 =>
                                    some v70
                                  else
                                    bd1 (L_is 1) fun v71 =>
                                    some v71
                                else
                                  bd1 (L_is 1) fun v68 =>
                                  some v68
                              else
                                if tv = 52 then
                                  if v1 = 0 then
                                    if v2 = 0 then
                                      bd1 (L_is 0) fun v76 =>
                                      some v76
                                    else
                                      bd1 (L_is 1) fun v77 =>
                                      some v77
                                  else
                                    bd1 (L_is 1) fun v74 =>
                                    some v74
                                else
                                  if tv = 53 then
                                    if v1 = 0 then
                                      if v2 = 0 then
                                        bd1 (L_is 0) fun v82 =>
                                        some v82
                                      else
                                        bd1 (L_is 1) fun v83 =>
                                        some v83
                                    else
                                      bd1 (L_is 1) fun v80 =>
                                      some v80
                                  else
                                    if tv = 54 then
                                      if v1 = 0 then
                                        if v2 = 0 then
                                          bd1 (L_is 0) fun v88 =>
                                          some v88
                                        else
                                          bd1 (L_is 1) fun v89 =>
                                          some v89
                                      else
                                        bd1 (L_is 1) fun v86 =>
                                        some v86
                                    else
                                      if tv = 55 then
                                        if v1 = 0 then
                                          if v2 = 0 then
                                            bd1 (L_is 0) fun v94 =>
                                            some v94
                                          else
                                            bd1 (L_is 1) fun v95 =>
                                            some v95
                                        else
                                          bd1 (L_is 1) fun v92 =>
                                          some v92
                                      else
                                        if tv = 56 then
                                          if v1 = 0 then
                                            if v2 = 0 then
                                              bd1 (L_is 0) fun v100 =>
                                              some v100
                                            else
                                              bd1 (L_is 1) fun v101 =>
                                              some v101
                                          else
                                            bd1 (L_is 1) fun v98 =>
                                            some v98
                                        else
                                          if tv = 57 then
                                            if v1 = 0 then
                                              if v2 = 0 then
                                                bd1 (L_is 0) fun v106 =>
                                                some v106
                                              else
                                                bd1 (L_is 1) fun v107 =>
                                                some v107
                                            else
                                              bd1 (L_is 1) fun v104 =>
                                              some v104
                                          else
                                            if tv = 58 then
                                              if v1 = 0 then
                                                if v2 = 0 then
                                                  bd1 (L_is 0) fun v112 =>
                                                  some v112
                                                else
                                                  bd1 (L_is 1) fun v113 =>
                                                  some v113
                                              else
                                                bd1 (L_is 1) fun v110 =>
                                                some v110
                                            else
                                              if tv = 59 then
                                                if v1 = 0 then
                                                  if v2 = 0 then
                                                    bd1 (L_is 0) fun v118 =>
                                                    some v118
                                                  else
                                                    bd1 (L_is 1) fun v119 =>
                                                    some v119
                                                else
                                                  bd1 (L_is 1) fun v116 =>
                                                  some v116
                                              else
                                                if tv = 60 then
                                                  if v2 ≤ v1 then
                                                    bd1 (L_is 0) fun v122 =>
                                                    some v122
                                                  else
                                                    bd1 (L_is 1) fun v123 =>
                                                    some v123
                                                else
                                                  if tv = 61 then
                                                    if v1 = v2 then
                                                      bd1 (L_is 1) fun v127 =>
                                                      some v127
                                                    else
                                                      bd1 (L_is 0) fun v126 =>
                                                      some v126
                                                  else
                                                    if tv = 62 then
                                                      if v1 ≤ v2 then
                                                        bd1 (L_is 0) fun v130 =>
                                                        some v130
                                                      else
                                                        bd1 (L_is 1) fun v131 =>
                                                        some v131
                                                    else
                                                      if v1 = 0 then
                                                        if v2 = 0 then
                                                          bd1 (L_is 0) fun v135 =>
                                                          some v135
                                                        else
                                                          bd1 (L_is 1) fun v136 =>
                                                          some v136
                                                      else
                                                        bd1 (L_is 1) fun v133 =>
                                                        some v133
